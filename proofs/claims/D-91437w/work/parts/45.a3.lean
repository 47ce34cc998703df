/-! MIRRORS of methods that make things: printed by gen/mk_alloc.py -/
abbrev iX1_wrong : OhM := (yX1_wrong, cX1_wrong, 8, (some .int), [])
theorem ok_X1_wrong : oOk iX1_wrong 1 := ⟨by decide, by decide, by decide +kernel⟩
abbrev iX1_putIn : OhM := (yX1_putIn, cX1_putIn, 6, none, [])
theorem ok_X1_putIn : oOk iX1_putIn 2 := ⟨by decide, by decide, by decide +kernel⟩
abbrev iX1_keep : OhM := (yX1_keep, cX1_keep, 4, (some .int), [])
theorem ok_X1_keep : oOk iX1_keep 0 := ⟨by decide, by decide, by decide +kernel⟩
abbrev iX1_init : OhM := (yX1_init, cX1_init, 1, none, [])
theorem ok_X1_init : oOk iX1_init 0 := ⟨by decide, by decide, by decide +kernel⟩
noncomputable def mX1_wrong_b45 (n : Nat) (FI : OhI) (FR : OhQ) (GR : OhQ) (AI : OhI) (AR : OhQ) (BR : OhQ) (AN : OhN) (C : OhC) (x2 : Int32) (x3 : Int32) (x4 : OhR) (x5 : Int32) (x6 : Int32) : Option (((Int32 × Int32) ⊕ (Int32)) × (Nat × Nat)) :=
  (if x5 ≤ x6 then
  some (.inr x2, (0, 0))
else
  (oD 100 x4).bind fun a10 =>
    gd (vp_in x6 (AN a10.1 a10.2)) <|
    (mJ18_bitCount (AI a10.1 a10.2 x6.toNatClampNeg)).bind fun r12 =>
    some (.inl (x2 + r12, x6 + (1 : Int32)), (0, 0)))
theorem x_mX1_wrong_b45 {G : OhG} {FI AI : OhI} {FL AL : OhL} {FR GR AR BR : OhQ} {AN : OhN} {C : OhC} {k : Nat × Nat} {Φ : OhP} {Ψ : OhX} (n : Nat) (x2 : Int32) (x3 : Int32) (x4 : OhR) (x5 : Int32) (x6 : Int32) {r : ((Int32 × Int32) ⊕ (Int32)) × (Nat × Nat)} (hm : mX1_wrong_b45 n FI FR GR AI AR BR AN C x2 x3 x4 x5 x6 = some r) (hk : ∀ v : Int32 × Int32, r.1 = .inl v → oX G 8 iX1_wrong 45 [(0, vR (some (0, 0))), (2, vI v.1), (3, vI x3), (4, vR x4), (5, vI x5), (6, vI v.2)] [] (FI, FL, FR, GR, AI, AL, AR, BR, AN, C) k Φ Ψ) (hx1 : ∀ v : Int32, r.1 = .inr v → oX G 8 iX1_wrong 73 [(0, vR (some (0, 0))), (2, vI v), (3, vI x3)] [] (FI, FL, FR, GR, AI, AL, AR, BR, AN, C) k Φ Ψ) : oX G 8 iX1_wrong 45 [(0, vR (some (0, 0))), (2, vI x2), (3, vI x3), (4, vR x4), (5, vI x5), (6, vI x6)] [] (FI, FL, FR, GR, AI, AL, AR, BR, AN, C) (oPl r.2 k) Φ Ψ := by
  obtain ⟨r, q0⟩ := r
  unfold mX1_wrong_b45 at hm
  refine oX_iload dX1_wrong_45 rfl ?_
  refine oX_iload dX1_wrong_47 rfl ?_
  refine oX_icmp_ge (tgt := 73) dX1_wrong_49 (by decide) (fun c9 => ?_) (fun c9 => ?_)
  · have hm := ifp c9 hm
    obtain ⟨hr, rfl⟩ := oEnd hm
    exact oX_sub [0, 1, 2] rfl (oX_z (hx1 x2 hr))
  · have hm := ifn c9 hm
    refine oX_aload dX1_wrong_52 rfl ?_
    refine oX_iload dX1_wrong_54 rfl ?_
    obtain ⟨a10, e10, hm⟩ := bd_s hm
    obtain ⟨g11, hm⟩ := gd_s hm
    refine oX_iald e10 g11 dX1_wrong_56 ?_
    refine oX_istore (ls' := [(7, vI (AI a10.1 a10.2 x6.toNatClampNeg)), (0, vR (some (0, 0))), (2, vI x2), (3, vI x3), (4, vR x4), (5, vI x5), (6, vI x6)]) dX1_wrong_57 (by decide) rfl ?_
    refine oX_iload_n dX1_wrong_59 rfl rfl ?_
    refine oX_iload dX1_wrong_60 rfl ?_
    obtain ⟨r12, g12, hm⟩ := bd_s hm
    refine oX_cS (as := [vI (AI a10.1 a10.2 x6.toNatClampNeg)]) dX1_wrong_62 rfl ok_J18_bitCount rfl rfl q1552 q1553 q162 q1554 (by decide) (Nat.le_of_ble_eq_true rfl) (t_J18_bitCount (AI a10.1 a10.2 x6.toNatClampNeg) g12) ?_
    refine oX_iadd dX1_wrong_65 ?_
    refine oX_istore_n (ls' := [(2, vI (x2 + r12)), (7, vI (AI a10.1 a10.2 x6.toNatClampNeg)), (0, vR (some (0, 0))), (3, vI x3), (4, vR x4), (5, vI x5), (6, vI x6)]) dX1_wrong_66 rfl (by decide) rfl ?_
    refine oX_iinc (v := x6 + (1 : Int32)) (ls' := [(6, vI (x6 + (1 : Int32))), (2, vI (x2 + r12)), (7, vI (AI a10.1 a10.2 x6.toNatClampNeg)), (0, vR (some (0, 0))), (3, vI x3), (4, vR x4), (5, vI x5)]) dX1_wrong_67 rfl rfl (by decide) rfl ?_
    refine oX_goto (tgt := 45) dX1_wrong_70 (by decide) ?_
    obtain ⟨hr, rfl⟩ := oEnd hm
    exact oX_sub [3, 1, 4, 5, 6, 0] rfl (oX_z (hk (x2 + r12, x6 + (1 : Int32)) hr))
theorem l_mX1_wrong_b45 {G : OhG} {FI : OhI} {FL : OhL} {FR : OhQ} {GR : OhQ} {AI : OhI} {AL : OhL} {AR : OhQ} {BR : OhQ} {AN : OhN} {C : OhC} {k : Nat × Nat} {Φ : OhP} {Ψ : OhX} (n : Nat) (x3 : Int32) (x4 : OhR) (x5 : Int32) : ∀ (f : Nat) (x2 : Int32) (x6 : Int32) (b : ((Int32)) × (Nat × Nat)), lpK (fun v => mX1_wrong_b45 n FI FR GR AI AR BR AN C v.1 x3 x4 x5 v.2) f (x2, x6) = some b → (oX G 8 iX1_wrong 73 [(0, vR (some (0, 0))), (2, vI b.1), (3, vI x3)] [] (FI, FL, FR, GR, AI, AL, AR, BR, AN, C) k Φ Ψ) → oX G 8 iX1_wrong 45 [(0, vR (some (0, 0))), (2, vI x2), (3, vI x3), (4, vR x4), (5, vI x5), (6, vI x6)] [] (FI, FL, FR, GR, AI, AL, AR, BR, AN, C) (oPl b.2 k) Φ Ψ := by
  intro f
  induction f with
  | zero =>
    intro x2 x6 b hm
    cases hm
  | succ f ih =>
    intro x2 x6 b hm hx1
    obtain ⟨⟨r, q⟩, hr, hm⟩ := lk_s hm
    rcases r with v | v
    · obtain ⟨c, hm, hb⟩ := hm
      rw [hb, oPl_assoc]
      refine x_mX1_wrong_b45 n x2 x3 x4 x5 x6 hr (fun v9 e => ?_) (fun v9 e => by cases e)
      cases e; exact ih v.1 v.2 (b.1, c) hm hx1
    · cases (show b = (v, q) from hm)
      refine x_mX1_wrong_b45 n x2 x3 x4 x5 x6 hr (fun v9 e => by cases e) (fun v9 e => ?_)
      · cases e; exact hx1
noncomputable def mX1_wrong_b13 (n : Nat) (FI : OhI) (FR : OhQ) (GR : OhQ) (AI : OhI) (AR : OhQ) (BR : OhQ) (AN : OhN) (C : OhC) (x2 : Int32) (x3 : Int32) : Option (((Int32 × Int32) ⊕ (Int32)) × (Nat × Nat)) :=
  (if (FI 0 0 17) ≤ x3 then
  some (.inr x2, (0, 0))
else
  gd (ohShH FR AR AN) <|
    gd (vp_in x3 66) <|
    (oD 14 (BR 316 0 x3.toNatClampNeg)).bind fun a7 =>
    gd (vp_in (FI a7.1 a7.2 0) 66) <|
    (lpK (fun v => mX1_wrong_b45 n FI FR GR AI AR BR AN C v.1 x3 (some (422, (FI a7.1 a7.2 0).toNatClampNeg)) (Int32.ofNat (AN 422 ((FI a7.1 a7.2 0).toNatClampNeg))) v.2) n (x2, (0 : Int32))).bind fun b13 => oCost b13.2 <| (fun v13 => some (.inl (v13, x3 + (1 : Int32)), (0, 0))) b13.1)
theorem x_mX1_wrong_b13 {G : OhG} {FI AI : OhI} {FL AL : OhL} {FR GR AR BR : OhQ} {AN : OhN} {C : OhC} {k : Nat × Nat} {Φ : OhP} {Ψ : OhX} (n : Nat) (x2 : Int32) (x3 : Int32) {r : ((Int32 × Int32) ⊕ (Int32)) × (Nat × Nat)} (hm : mX1_wrong_b13 n FI FR GR AI AR BR AN C x2 x3 = some r) (hk : ∀ v : Int32 × Int32, r.1 = .inl v → oX G 8 iX1_wrong 13 [(0, vR (some (0, 0))), (2, vI v.1), (3, vI v.2)] [] (FI, FL, FR, GR, AI, AL, AR, BR, AN, C) k Φ Ψ) (hx1 : ∀ v : Int32, r.1 = .inr v → oX G 8 iX1_wrong 79 [(0, vR (some (0, 0))), (2, vI v)] [] (FI, FL, FR, GR, AI, AL, AR, BR, AN, C) k Φ Ψ) : oX G 8 iX1_wrong 13 [(0, vR (some (0, 0))), (2, vI x2), (3, vI x3)] [] (FI, FL, FR, GR, AI, AL, AR, BR, AN, C) (oPl r.2 k) Φ Ψ := by
  obtain ⟨r, q0⟩ := r
  unfold mX1_wrong_b13 at hm
  refine oX_iload_n dX1_wrong_13 rfl rfl ?_
  refine oX_aload_n dX1_wrong_14 rfl rfl ?_
  refine oX_getI fX1_227 rfl oDs0 dX1_wrong_15 ?_
  refine oX_icmp_ge (tgt := 79) dX1_wrong_18 (by decide) (fun c4 => ?_) (fun c4 => ?_)
  · have hm := ifp c4 hm
    obtain ⟨hr, rfl⟩ := oEnd hm
    exact oX_sub [0, 1] rfl (oX_z (hx1 x2 hr))
  · have hm := ifn c4 hm
    refine oX_aload_n dX1_wrong_21 rfl rfl ?_
    obtain ⟨s5, hm⟩ := gd_s hm
    refine oX_getF fX1_73 rfl oDs0 dX1_wrong_22 (ohF322 s5) ?_
    refine oX_aload_n dX1_wrong_25 rfl rfl ?_
    refine oX_getF fX1_58 rfl oDs0 dX1_wrong_26 (ohF316 s5) ?_
    refine oX_iload_n dX1_wrong_29 rfl rfl ?_
    obtain ⟨g6, hm⟩ := gd_s hm
    refine oX_aaldC oDs316 (oIn (ohN316 s5) g6) dX1_wrong_30 rfl ?_
    obtain ⟨a7, e7, hm⟩ := bd_s hm
    refine oX_getI fX1_233 rfl e7 dX1_wrong_31 ?_
    obtain ⟨g8, hm⟩ := gd_s hm
    refine oX_aaldR oDs322 (oIn (ohN322 s5) g8) dX1_wrong_34 (ohA322 s5 (oLt g8)) ?_
    refine oX_astore (ls' := [(4, vR (some (422, (FI a7.1 a7.2 0).toNatClampNeg))), (0, vR (some (0, 0))), (2, vI x2), (3, vI x3)]) dX1_wrong_35 (by decide) rfl ?_
    refine oX_aload dX1_wrong_37 rfl ?_
    refine oX_alen 0 (by decide) oDs422 dX1_wrong_39 ?_
    refine oX_istore (ls' := [(5, vI (Int32.ofNat (AN 422 ((FI a7.1 a7.2 0).toNatClampNeg)))), (4, vR (some (422, (FI a7.1 a7.2 0).toNatClampNeg))), (0, vR (some (0, 0))), (2, vI x2), (3, vI x3)]) dX1_wrong_40 (by decide) rfl ?_
    refine oX_iconst (v := (0 : Int32)) dX1_wrong_42 (by decide) ?_
    refine oX_istore (ls' := [(6, vI (0 : Int32)), (5, vI (Int32.ofNat (AN 422 ((FI a7.1 a7.2 0).toNatClampNeg)))), (4, vR (some (422, (FI a7.1 a7.2 0).toNatClampNeg))), (0, vR (some (0, 0))), (2, vI x2), (3, vI x3)]) dX1_wrong_43 (by decide) rfl ?_
    obtain ⟨b13, g13, hm⟩ := bd_s hm
    refine oX_cost hm (fun qq13 hm => ?_)
    refine oX_sub [3, 4, 5, 2, 1, 0] rfl (l_mX1_wrong_b45 n x3 (some (422, (FI a7.1 a7.2 0).toNatClampNeg)) (Int32.ofNat (AN 422 ((FI a7.1 a7.2 0).toNatClampNeg))) n x2 (0 : Int32) _ g13 ?_)
    generalize b13.1 = v13 at hm ⊢
    refine oX_iinc (v := x3 + (1 : Int32)) (ls' := [(3, vI (x3 + (1 : Int32))), (0, vR (some (0, 0))), (2, vI v13)]) dX1_wrong_73 rfl rfl (by decide) rfl ?_
    refine oX_goto (tgt := 13) dX1_wrong_76 (by decide) ?_
    obtain ⟨hr, rfl⟩ := oEnd hm
    exact oX_sub [1, 2, 0] rfl (oX_z (hk (v13, x3 + (1 : Int32)) hr))
theorem l_mX1_wrong_b13 {G : OhG} {FI : OhI} {FL : OhL} {FR : OhQ} {GR : OhQ} {AI : OhI} {AL : OhL} {AR : OhQ} {BR : OhQ} {AN : OhN} {C : OhC} {k : Nat × Nat} {Φ : OhP} {Ψ : OhX} (n : Nat) : ∀ (f : Nat) (x2 : Int32) (x3 : Int32) (b : ((Int32)) × (Nat × Nat)), lpK (fun v => mX1_wrong_b13 n FI FR GR AI AR BR AN C v.1 v.2) f (x2, x3) = some b → (oX G 8 iX1_wrong 79 [(0, vR (some (0, 0))), (2, vI b.1)] [] (FI, FL, FR, GR, AI, AL, AR, BR, AN, C) k Φ Ψ) → oX G 8 iX1_wrong 13 [(0, vR (some (0, 0))), (2, vI x2), (3, vI x3)] [] (FI, FL, FR, GR, AI, AL, AR, BR, AN, C) (oPl b.2 k) Φ Ψ := by
  intro f
  induction f with
  | zero =>
    intro x2 x3 b hm
    cases hm
  | succ f ih =>
    intro x2 x3 b hm hx1
    obtain ⟨⟨r, q⟩, hr, hm⟩ := lk_s hm
    rcases r with v | v
    · obtain ⟨c, hm, hb⟩ := hm
      rw [hb, oPl_assoc]
      refine x_mX1_wrong_b13 n x2 x3 hr (fun v9 e => ?_) (fun v9 e => by cases e)
      cases e; exact ih v.1 v.2 (b.1, c) hm hx1
    · cases (show b = (v, q) from hm)
      refine x_mX1_wrong_b13 n x2 x3 hr (fun v9 e => by cases e) (fun v9 e => ?_)
      · cases e; exact hx1
noncomputable def mX1_wrong_b125 (n : Nat) (FI : OhI) (FR : OhQ) (GR : OhQ) (AI : OhI) (AR : OhQ) (BR : OhQ) (AN : OhN) (C : OhC) (x2 : Int32) (x3 : Int32) (x4 : Int32) (x5 : Int32) (x6 : Int32) (x7 : Int32) : Option (((Int32 × Int32 × OhI) ⊕ (Int32 × OhI)) × (Nat × Nat)) :=
  (if (8 : Int32) < x7 then
  some (.inr (x3, AI), (0, 0))
else
  gd (ohShH FR AR AN) <|
    gd (vp_in x5 66) <|
    gd (vp_in x7 9) <|
    (if (((AI 422 x5.toNatClampNeg x7.toNatClampNeg) >>> (x6 &&& 31)) &&& (1 : Int32)) = 0 then
    some (.inl (x3, x7 + (1 : Int32), AI), (0, 0))
  else
    (oD 100 (GR 0 0 26)).bind fun a27 =>
      gd (vp_in x3 (AN a27.1 a27.2)) <|
      oLet (sA AI a27.1 a27.2 (uA (AI a27.1 a27.2) x3.toNatClampNeg ((((x6 * (100 : Int32)) + x5) * (10 : Int32)) + x7))) fun AI28 =>
      some (.inl (x3 + (1 : Int32), x7 + (1 : Int32), AI28), (0, 0))))
theorem x_mX1_wrong_b125 {G : OhG} {FI AI : OhI} {FL AL : OhL} {FR GR AR BR : OhQ} {AN : OhN} {C : OhC} {k : Nat × Nat} {Φ : OhP} {Ψ : OhX} (n : Nat) (x2 : Int32) (x3 : Int32) (x4 : Int32) (x5 : Int32) (x6 : Int32) (x7 : Int32) {r : ((Int32 × Int32 × OhI) ⊕ (Int32 × OhI)) × (Nat × Nat)} (hm : mX1_wrong_b125 n FI FR GR AI AR BR AN C x2 x3 x4 x5 x6 x7 = some r) (hk : ∀ v : Int32 × Int32 × OhI, r.1 = .inl v → oX G 8 iX1_wrong 125 [(0, vR (some (0, 0))), (2, vI x2), (3, vI v.1), (4, vI x4), (5, vI x5), (6, vI x6), (7, vI v.2.1)] [] (FI, FL, FR, GR, v.2.2, AL, AR, BR, AN, C) k Φ Ψ) (hx1 : ∀ v : Int32 × OhI, r.1 = .inr v → oX G 8 iX1_wrong 182 [(0, vR (some (0, 0))), (2, vI x2), (3, vI v.1), (4, vI x4), (5, vI x5), (6, vI x6)] [] (FI, FL, FR, GR, v.2, AL, AR, BR, AN, C) k Φ Ψ) : oX G 8 iX1_wrong 125 [(0, vR (some (0, 0))), (2, vI x2), (3, vI x3), (4, vI x4), (5, vI x5), (6, vI x6), (7, vI x7)] [] (FI, FL, FR, GR, AI, AL, AR, BR, AN, C) (oPl r.2 k) Φ Ψ := by
  obtain ⟨r, q0⟩ := r
  unfold mX1_wrong_b125 at hm
  refine oX_iload dX1_wrong_125 rfl ?_
  refine oX_bipush (v := (8 : Int32)) dX1_wrong_127 (by decide) ?_
  refine oX_icmp_gt (tgt := 182) dX1_wrong_129 (by decide) (fun c22 => ?_) (fun c22 => ?_)
  · have hm := ifp c22 hm
    obtain ⟨hr, rfl⟩ := oEnd hm
    exact oX_sub [0, 1, 2, 3, 4, 5] rfl (oX_z (hx1 (x3, AI) hr))
  · have hm := ifn c22 hm
    refine oX_aload_n dX1_wrong_132 rfl rfl ?_
    obtain ⟨s23, hm⟩ := gd_s hm
    refine oX_getF fX1_73 rfl oDs0 dX1_wrong_133 (ohF322 s23) ?_
    refine oX_iload dX1_wrong_136 rfl ?_
    obtain ⟨g24, hm⟩ := gd_s hm
    refine oX_aaldR oDs322 (oIn (ohN322 s23) g24) dX1_wrong_138 (ohA322 s23 (oLt g24)) ?_
    refine oX_iload dX1_wrong_139 rfl ?_
    obtain ⟨g25, hm⟩ := gd_s hm
    refine oX_iald oDs422 (oIn (ohM422 s23 (oLt g24)) g25) dX1_wrong_141 ?_
    refine oX_iload dX1_wrong_142 rfl ?_
    refine oX_ishr dX1_wrong_144 ?_
    refine oX_iconst (v := (1 : Int32)) dX1_wrong_145 (by decide) ?_
    refine oX_iand dX1_wrong_146 ?_
    refine oX_if_ne (tgt := 153) dX1_wrong_147 (by decide) (fun c26 => ?_) (fun c26 => ?_)
    · have hm := ifp c26 hm
      refine oX_goto (tgt := 176) dX1_wrong_150 (by decide) ?_
      refine oX_iinc (v := x7 + (1 : Int32)) (ls' := [(7, vI (x7 + (1 : Int32))), (0, vR (some (0, 0))), (2, vI x2), (3, vI x3), (4, vI x4), (5, vI x5), (6, vI x6)]) dX1_wrong_176 rfl rfl (by decide) rfl ?_
      refine oX_goto (tgt := 125) dX1_wrong_179 (by decide) ?_
      obtain ⟨hr, rfl⟩ := oEnd hm
      exact oX_sub [1, 2, 3, 4, 5, 6, 0] rfl (oX_z (hk (x3, x7 + (1 : Int32), AI) hr))
    · have hm := ifn c26 hm
      refine oX_aload_n dX1_wrong_153 rfl rfl ?_
      refine oX_getG fX1_86 rfl oDs0 dX1_wrong_154 ?_
      refine oX_iload_n dX1_wrong_157 rfl rfl ?_
      refine oX_iload dX1_wrong_158 rfl ?_
      refine oX_bipush (v := (100 : Int32)) dX1_wrong_160 (by decide) ?_
      refine oX_imul dX1_wrong_162 ?_
      refine oX_iload dX1_wrong_163 rfl ?_
      refine oX_iadd dX1_wrong_165 ?_
      refine oX_bipush (v := (10 : Int32)) dX1_wrong_166 (by decide) ?_
      refine oX_imul dX1_wrong_168 ?_
      refine oX_iload dX1_wrong_169 rfl ?_
      refine oX_iadd dX1_wrong_171 ?_
      obtain ⟨a27, e27, hm⟩ := bd_s hm
      obtain ⟨g28, hm⟩ := gd_s hm
      obtain ⟨AI28, hAI28, hm⟩ := oLs hm
      refine oX_iast e27 g28 dX1_wrong_172 hAI28 ?_
      refine oX_iinc (v := x3 + (1 : Int32)) (ls' := [(3, vI (x3 + (1 : Int32))), (0, vR (some (0, 0))), (2, vI x2), (4, vI x4), (5, vI x5), (6, vI x6), (7, vI x7)]) dX1_wrong_173 rfl rfl (by decide) rfl ?_
      refine oX_iinc (v := x7 + (1 : Int32)) (ls' := [(7, vI (x7 + (1 : Int32))), (3, vI (x3 + (1 : Int32))), (0, vR (some (0, 0))), (2, vI x2), (4, vI x4), (5, vI x5), (6, vI x6)]) dX1_wrong_176 rfl rfl (by decide) rfl ?_
      refine oX_goto (tgt := 125) dX1_wrong_179 (by decide) ?_
      obtain ⟨hr, rfl⟩ := oEnd hm
      exact oX_sub [2, 3, 1, 4, 5, 6, 0] rfl (oX_z (hk (x3 + (1 : Int32), x7 + (1 : Int32), AI28) hr))
theorem l_mX1_wrong_b125 {G : OhG} {FI : OhI} {FL : OhL} {FR : OhQ} {GR : OhQ} {AL : OhL} {AR : OhQ} {BR : OhQ} {AN : OhN} {C : OhC} {k : Nat × Nat} {Φ : OhP} {Ψ : OhX} (n : Nat) (x2 : Int32) (x4 : Int32) (x5 : Int32) (x6 : Int32) : ∀ (f : Nat) (x3 : Int32) (x7 : Int32) (AI : OhI) (b : ((Int32 × OhI)) × (Nat × Nat)), lpK (fun v => mX1_wrong_b125 n FI FR GR v.2.2 AR BR AN C x2 v.1 x4 x5 x6 v.2.1) f (x3, x7, AI) = some b → (oX G 8 iX1_wrong 182 [(0, vR (some (0, 0))), (2, vI x2), (3, vI b.1.1), (4, vI x4), (5, vI x5), (6, vI x6)] [] (FI, FL, FR, GR, b.1.2, AL, AR, BR, AN, C) k Φ Ψ) → oX G 8 iX1_wrong 125 [(0, vR (some (0, 0))), (2, vI x2), (3, vI x3), (4, vI x4), (5, vI x5), (6, vI x6), (7, vI x7)] [] (FI, FL, FR, GR, AI, AL, AR, BR, AN, C) (oPl b.2 k) Φ Ψ := by
  intro f
  induction f with
  | zero =>
    intro x3 x7 AI b hm
    cases hm
  | succ f ih =>
    intro x3 x7 AI b hm hx1
    obtain ⟨⟨r, q⟩, hr, hm⟩ := lk_s hm
    rcases r with v | v
    · obtain ⟨c, hm, hb⟩ := hm
      rw [hb, oPl_assoc]
      refine x_mX1_wrong_b125 n x2 x3 x4 x5 x6 x7 hr (fun v9 e => ?_) (fun v9 e => by cases e)
      cases e; exact ih v.1 v.2.1 v.2.2 (b.1, c) hm hx1
    · cases (show b = (v, q) from hm)
      refine x_mX1_wrong_b125 n x2 x3 x4 x5 x6 x7 hr (fun v9 e => by cases e) (fun v9 e => ?_)
      · cases e; exact hx1
noncomputable def mX1_wrong_b115 (n : Nat) (FI : OhI) (FR : OhQ) (GR : OhQ) (AI : OhI) (AR : OhQ) (BR : OhQ) (AN : OhN) (C : OhC) (x2 : Int32) (x3 : Int32) (x4 : Int32) (x5 : Int32) (x6 : Int32) : Option (((Int32 × Int32 × OhI) ⊕ (Int32 × OhI)) × (Nat × Nat)) :=
  (if (15 : Int32) < x6 then
  some (.inr (x3, AI), (0, 0))
else
  (lpK (fun v => mX1_wrong_b125 n FI FR GR v.2.2 AR BR AN C x2 v.1 x4 x5 x6 v.2.1) n (x3, (0 : Int32), AI)).bind fun b29 => oCost b29.2 <| (fun v29 => some (.inl (v29.1, x6 + (1 : Int32), v29.2), (0, 0))) b29.1)
theorem x_mX1_wrong_b115 {G : OhG} {FI AI : OhI} {FL AL : OhL} {FR GR AR BR : OhQ} {AN : OhN} {C : OhC} {k : Nat × Nat} {Φ : OhP} {Ψ : OhX} (n : Nat) (x2 : Int32) (x3 : Int32) (x4 : Int32) (x5 : Int32) (x6 : Int32) {r : ((Int32 × Int32 × OhI) ⊕ (Int32 × OhI)) × (Nat × Nat)} (hm : mX1_wrong_b115 n FI FR GR AI AR BR AN C x2 x3 x4 x5 x6 = some r) (hk : ∀ v : Int32 × Int32 × OhI, r.1 = .inl v → oX G 8 iX1_wrong 115 [(0, vR (some (0, 0))), (2, vI x2), (3, vI v.1), (4, vI x4), (5, vI x5), (6, vI v.2.1)] [] (FI, FL, FR, GR, v.2.2, AL, AR, BR, AN, C) k Φ Ψ) (hx1 : ∀ v : Int32 × OhI, r.1 = .inr v → oX G 8 iX1_wrong 188 [(0, vR (some (0, 0))), (2, vI x2), (3, vI v.1), (4, vI x4)] [] (FI, FL, FR, GR, v.2, AL, AR, BR, AN, C) k Φ Ψ) : oX G 8 iX1_wrong 115 [(0, vR (some (0, 0))), (2, vI x2), (3, vI x3), (4, vI x4), (5, vI x5), (6, vI x6)] [] (FI, FL, FR, GR, AI, AL, AR, BR, AN, C) (oPl r.2 k) Φ Ψ := by
  obtain ⟨r, q0⟩ := r
  unfold mX1_wrong_b115 at hm
  refine oX_iload dX1_wrong_115 rfl ?_
  refine oX_bipush (v := (15 : Int32)) dX1_wrong_117 (by decide) ?_
  refine oX_icmp_gt (tgt := 188) dX1_wrong_119 (by decide) (fun c21 => ?_) (fun c21 => ?_)
  · have hm := ifp c21 hm
    obtain ⟨hr, rfl⟩ := oEnd hm
    exact oX_sub [0, 1, 2, 3] rfl (oX_z (hx1 (x3, AI) hr))
  · have hm := ifn c21 hm
    refine oX_iconst (v := (0 : Int32)) dX1_wrong_122 (by decide) ?_
    refine oX_istore (ls' := [(7, vI (0 : Int32)), (0, vR (some (0, 0))), (2, vI x2), (3, vI x3), (4, vI x4), (5, vI x5), (6, vI x6)]) dX1_wrong_123 (by decide) rfl ?_
    obtain ⟨b29, g29, hm⟩ := bd_s hm
    refine oX_cost hm (fun qq29 hm => ?_)
    refine oX_sub [1, 2, 3, 4, 5, 6, 0] rfl (l_mX1_wrong_b125 n x2 x4 x5 x6 n x3 (0 : Int32) AI _ g29 ?_)
    generalize b29.1 = v29 at hm ⊢
    refine oX_iinc (v := x6 + (1 : Int32)) (ls' := [(6, vI (x6 + (1 : Int32))), (0, vR (some (0, 0))), (2, vI x2), (3, vI v29.1), (4, vI x4), (5, vI x5)]) dX1_wrong_182 rfl rfl (by decide) rfl ?_
    refine oX_goto (tgt := 115) dX1_wrong_185 (by decide) ?_
    obtain ⟨hr, rfl⟩ := oEnd hm
    exact oX_sub [1, 2, 3, 4, 5, 0] rfl (oX_z (hk (v29.1, x6 + (1 : Int32), v29.2) hr))
theorem l_mX1_wrong_b115 {G : OhG} {FI : OhI} {FL : OhL} {FR : OhQ} {GR : OhQ} {AL : OhL} {AR : OhQ} {BR : OhQ} {AN : OhN} {C : OhC} {k : Nat × Nat} {Φ : OhP} {Ψ : OhX} (n : Nat) (x2 : Int32) (x4 : Int32) (x5 : Int32) : ∀ (f : Nat) (x3 : Int32) (x6 : Int32) (AI : OhI) (b : ((Int32 × OhI)) × (Nat × Nat)), lpK (fun v => mX1_wrong_b115 n FI FR GR v.2.2 AR BR AN C x2 v.1 x4 x5 v.2.1) f (x3, x6, AI) = some b → (oX G 8 iX1_wrong 188 [(0, vR (some (0, 0))), (2, vI x2), (3, vI b.1.1), (4, vI x4)] [] (FI, FL, FR, GR, b.1.2, AL, AR, BR, AN, C) k Φ Ψ) → oX G 8 iX1_wrong 115 [(0, vR (some (0, 0))), (2, vI x2), (3, vI x3), (4, vI x4), (5, vI x5), (6, vI x6)] [] (FI, FL, FR, GR, AI, AL, AR, BR, AN, C) (oPl b.2 k) Φ Ψ := by
  intro f
  induction f with
  | zero =>
    intro x3 x6 AI b hm
    cases hm
  | succ f ih =>
    intro x3 x6 AI b hm hx1
    obtain ⟨⟨r, q⟩, hr, hm⟩ := lk_s hm
    rcases r with v | v
    · obtain ⟨c, hm, hb⟩ := hm
      rw [hb, oPl_assoc]
      refine x_mX1_wrong_b115 n x2 x3 x4 x5 x6 hr (fun v9 e => ?_) (fun v9 e => by cases e)
      cases e; exact ih v.1 v.2.1 v.2.2 (b.1, c) hm hx1
    · cases (show b = (v, q) from hm)
      refine x_mX1_wrong_b115 n x2 x3 x4 x5 x6 hr (fun v9 e => by cases e) (fun v9 e => ?_)
      · cases e; exact hx1
noncomputable def mX1_wrong_b91 (n : Nat) (FI : OhI) (FR : OhQ) (GR : OhQ) (AI : OhI) (AR : OhQ) (BR : OhQ) (AN : OhN) (C : OhC) (x2 : Int32) (x3 : Int32) (x4 : Int32) : Option (((Int32 × Int32 × OhI) ⊕ (OhI)) × (Nat × Nat)) :=
  (if (FI 0 0 17) ≤ x4 then
  some (.inr AI, (0, 0))
else
  gd (ohShH FR AR AN) <|
    gd (vp_in x4 66) <|
    (oD 14 (BR 316 0 x4.toNatClampNeg)).bind fun a20 =>
    (lpK (fun v => mX1_wrong_b115 n FI FR GR v.2.2 AR BR AN C x2 v.1 x4 (FI a20.1 a20.2 0) v.2.1) n (x3, (1 : Int32), AI)).bind fun b30 => oCost b30.2 <| (fun v30 => some (.inl (v30.1, x4 + (1 : Int32), v30.2), (0, 0))) b30.1)
theorem x_mX1_wrong_b91 {G : OhG} {FI AI : OhI} {FL AL : OhL} {FR GR AR BR : OhQ} {AN : OhN} {C : OhC} {k : Nat × Nat} {Φ : OhP} {Ψ : OhX} (n : Nat) (x2 : Int32) (x3 : Int32) (x4 : Int32) {r : ((Int32 × Int32 × OhI) ⊕ (OhI)) × (Nat × Nat)} (hm : mX1_wrong_b91 n FI FR GR AI AR BR AN C x2 x3 x4 = some r) (hk : ∀ v : Int32 × Int32 × OhI, r.1 = .inl v → oX G 8 iX1_wrong 91 [(0, vR (some (0, 0))), (2, vI x2), (3, vI v.1), (4, vI v.2.1)] [] (FI, FL, FR, GR, v.2.2, AL, AR, BR, AN, C) k Φ Ψ) (hx1 : ∀ v : OhI, r.1 = .inr v → oX G 8 iX1_wrong 194 [(2, vI x2)] [] (FI, FL, FR, GR, v, AL, AR, BR, AN, C) k Φ Ψ) : oX G 8 iX1_wrong 91 [(0, vR (some (0, 0))), (2, vI x2), (3, vI x3), (4, vI x4)] [] (FI, FL, FR, GR, AI, AL, AR, BR, AN, C) (oPl r.2 k) Φ Ψ := by
  obtain ⟨r, q0⟩ := r
  unfold mX1_wrong_b91 at hm
  refine oX_iload dX1_wrong_91 rfl ?_
  refine oX_aload_n dX1_wrong_93 rfl rfl ?_
  refine oX_getI fX1_227 rfl oDs0 dX1_wrong_94 ?_
  refine oX_icmp_ge (tgt := 194) dX1_wrong_97 (by decide) (fun c17 => ?_) (fun c17 => ?_)
  · have hm := ifp c17 hm
    obtain ⟨hr, rfl⟩ := oEnd hm
    exact oX_sub [1] rfl (oX_z (hx1 AI hr))
  · have hm := ifn c17 hm
    refine oX_aload_n dX1_wrong_100 rfl rfl ?_
    obtain ⟨s18, hm⟩ := gd_s hm
    refine oX_getF fX1_58 rfl oDs0 dX1_wrong_101 (ohF316 s18) ?_
    refine oX_iload dX1_wrong_104 rfl ?_
    obtain ⟨g19, hm⟩ := gd_s hm
    refine oX_aaldC oDs316 (oIn (ohN316 s18) g19) dX1_wrong_106 rfl ?_
    obtain ⟨a20, e20, hm⟩ := bd_s hm
    refine oX_getI fX1_233 rfl e20 dX1_wrong_107 ?_
    refine oX_istore (ls' := [(5, vI (FI a20.1 a20.2 0)), (0, vR (some (0, 0))), (2, vI x2), (3, vI x3), (4, vI x4)]) dX1_wrong_110 (by decide) rfl ?_
    refine oX_iconst (v := (1 : Int32)) dX1_wrong_112 (by decide) ?_
    refine oX_istore (ls' := [(6, vI (1 : Int32)), (5, vI (FI a20.1 a20.2 0)), (0, vR (some (0, 0))), (2, vI x2), (3, vI x3), (4, vI x4)]) dX1_wrong_113 (by decide) rfl ?_
    obtain ⟨b30, g30, hm⟩ := bd_s hm
    refine oX_cost hm (fun qq30 hm => ?_)
    refine oX_sub [2, 3, 4, 5, 1, 0] rfl (l_mX1_wrong_b115 n x2 x4 (FI a20.1 a20.2 0) n x3 (1 : Int32) AI _ g30 ?_)
    generalize b30.1 = v30 at hm ⊢
    refine oX_iinc (v := x4 + (1 : Int32)) (ls' := [(4, vI (x4 + (1 : Int32))), (0, vR (some (0, 0))), (2, vI x2), (3, vI v30.1)]) dX1_wrong_188 rfl rfl (by decide) rfl ?_
    refine oX_goto (tgt := 91) dX1_wrong_191 (by decide) ?_
    obtain ⟨hr, rfl⟩ := oEnd hm
    exact oX_sub [1, 2, 3, 0] rfl (oX_z (hk (v30.1, x4 + (1 : Int32), v30.2) hr))
theorem l_mX1_wrong_b91 {G : OhG} {FI : OhI} {FL : OhL} {FR : OhQ} {GR : OhQ} {AL : OhL} {AR : OhQ} {BR : OhQ} {AN : OhN} {C : OhC} {k : Nat × Nat} {Φ : OhP} {Ψ : OhX} (n : Nat) (x2 : Int32) : ∀ (f : Nat) (x3 : Int32) (x4 : Int32) (AI : OhI) (b : ((OhI)) × (Nat × Nat)), lpK (fun v => mX1_wrong_b91 n FI FR GR v.2.2 AR BR AN C x2 v.1 v.2.1) f (x3, x4, AI) = some b → (oX G 8 iX1_wrong 194 [(2, vI x2)] [] (FI, FL, FR, GR, b.1, AL, AR, BR, AN, C) k Φ Ψ) → oX G 8 iX1_wrong 91 [(0, vR (some (0, 0))), (2, vI x2), (3, vI x3), (4, vI x4)] [] (FI, FL, FR, GR, AI, AL, AR, BR, AN, C) (oPl b.2 k) Φ Ψ := by
  intro f
  induction f with
  | zero =>
    intro x3 x4 AI b hm
    cases hm
  | succ f ih =>
    intro x3 x4 AI b hm hx1
    obtain ⟨⟨r, q⟩, hr, hm⟩ := lk_s hm
    rcases r with v | v
    · obtain ⟨c, hm, hb⟩ := hm
      rw [hb, oPl_assoc]
      refine x_mX1_wrong_b91 n x2 x3 x4 hr (fun v9 e => ?_) (fun v9 e => by cases e)
      cases e; exact ih v.1 v.2.1 v.2.2 (b.1, c) hm hx1
    · cases (show b = (v, q) from hm)
      refine x_mX1_wrong_b91 n x2 x3 x4 hr (fun v9 e => by cases e) (fun v9 e => ?_)
      · cases e; exact hx1
noncomputable def mX1_wrong (n : Nat) (FI : OhI) (FR : OhQ) (GR : OhQ) (AI : OhI) (AR : OhQ) (BR : OhQ) (AN : OhN) (C : OhC) (x1 : Int32) : Option ((Int32 × OhI × OhQ × OhI × OhQ × OhN × OhC) × (Nat × Nat)) :=
  gd (ohShH FR AR AN) <|
  (mX1_layOut n FI FR GR AI AR BR AN x1).bind fun r2 =>
  (mX1_judge n r2.1 FR GR r2.2.1 AR r2.2.2 AN).bind fun r3 =>
  (lpK (fun v => mX1_wrong_b13 n r2.1 FR GR r3 AR r2.2.2 AN C v.1 v.2) n ((0 : Int32), (0 : Int32))).bind fun b14 => oCost b14.2 <| (fun v14 => gd (¬ v14 < 0 ∧ v14 ≤ 100000) <|
  oLet (sA r3 20 (C 20) (fun _ => 0)) fun AI15 =>
  oLet (sA AN 20 (C 20) v14.toNatClampNeg) fun AN15 =>
  oLet (uA C 20 (C 20 + 1)) fun C15 =>
  oCost (1, v14.toNatClampNeg) <|
  oLet (sA GR 0 0 (uA (GR 0 0) 26 (some (20, C 20)))) fun GR16 =>
  (lpK (fun v => mX1_wrong_b91 n r2.1 FR GR16 v.2.2 AR r2.2.2 AN15 C15 v14 v.1 v.2.1) n ((0 : Int32), (0 : Int32), AI15)).bind fun b31 => oCost b31.2 <| (fun v31 => some ((v14, r2.1, GR16, v31, r2.2.2, AN15, C15), (0, 0))) b31.1) b14.1
theorem x_mX1_wrong {G : OhG} {FI AI : OhI} {FL AL : OhL} {FR GR AR BR : OhQ} {AN : OhN} {C : OhC} {k : Nat × Nat} {Φ : OhP} {Ψ : OhX} (n : Nat) (x1 : Int32) {r : (Int32 × OhI × OhQ × OhI × OhQ × OhN × OhC) × (Nat × Nat)} (hm : mX1_wrong n FI FR GR AI AR BR AN C x1 = some r) (hK : Φ (some (vI r.1.1)) (r.1.2.1, FL, FR, r.1.2.2.1, r.1.2.2.2.1, AL, AR, r.1.2.2.2.2.1, r.1.2.2.2.2.2.1, r.1.2.2.2.2.2.2)) : oX G 8 iX1_wrong 0 [(0, vR (some (0, 0))), (1, vI x1)] [] (FI, FL, FR, GR, AI, AL, AR, BR, AN, C) (oPl r.2 k) Φ Ψ := by
  obtain ⟨r, q0⟩ := r
  unfold mX1_wrong at hm
  refine oX_aload_n dX1_wrong_0 rfl rfl ?_
  refine oX_iload_n dX1_wrong_1 rfl rfl ?_
  obtain ⟨s1, hm⟩ := gd_s hm
  obtain ⟨r2, g2, hm⟩ := bd_s hm
  refine oX_cV_ (as := [vI x1]) dX1_wrong_2 rfl oDs0 rfl (by decide) rfl ok_X1_layOut rfl rfl q1418 q1420 qs25 q129 q1421 (by decide) (Nat.le_of_ble_eq_true rfl) (t_X1_layOut s1 n x1 g2) ?_
  refine oX_aload_n dX1_wrong_5 rfl rfl ?_
  obtain ⟨r3, g3, hm⟩ := bd_s hm
  refine oX_cV_ (as := []) dX1_wrong_6 rfl oDs0 rfl (by decide) rfl ok_X1_judge rfl rfl q1434 q1436 qs28 q129 q1437 (by decide) (Nat.le_of_ble_eq_true rfl) (t_X1_judge s1 n g3) ?_
  refine oX_iconst (v := (0 : Int32)) dX1_wrong_9 (by decide) ?_
  refine oX_istore_n (ls' := [(2, vI (0 : Int32)), (0, vR (some (0, 0))), (1, vI x1)]) dX1_wrong_10 rfl (by decide) rfl ?_
  refine oX_iconst (v := (0 : Int32)) dX1_wrong_11 (by decide) ?_
  refine oX_istore_n (ls' := [(3, vI (0 : Int32)), (2, vI (0 : Int32)), (0, vR (some (0, 0))), (1, vI x1)]) dX1_wrong_12 rfl (by decide) rfl ?_
  obtain ⟨b14, g14, hm⟩ := bd_s hm
  refine oX_cost hm (fun qq14 hm => ?_)
  refine oX_sub [2, 1, 0] rfl (l_mX1_wrong_b13 n n (0 : Int32) (0 : Int32) _ g14 ?_)
  generalize b14.1 = v14 at hm ⊢
  refine oX_aload_n dX1_wrong_79 rfl rfl ?_
  refine oX_iload_n dX1_wrong_80 rfl rfl ?_
  obtain ⟨g15, hm⟩ := gd_s hm
  obtain ⟨AI15, hAI15, hm⟩ := oLs hm
  obtain ⟨AN15, hAN15, hm⟩ := oLs hm
  obtain ⟨C15, hC15, hm⟩ := oLs hm
  refine oX_cost hm (fun qq15 hm => ?_)
  refine oX_newa0 (k := oPl qq15 k) 20 rfl q205 dX1_wrong_81 g15.1 g15.2 hAI15 hAN15 hC15 ?_
  obtain ⟨GR16, hGR16, hm⟩ := oLs hm
  refine oX_putG fX1_86 rfl (fun h9 => by cases h9) oDs0 dX1_wrong_83 (by first | exact Or.inl ⟨_, rfl⟩ | exact Or.inr ⟨_, rfl⟩) hGR16 ?_
  refine oX_iconst (v := (0 : Int32)) dX1_wrong_86 (by decide) ?_
  refine oX_istore_n (ls' := [(3, vI (0 : Int32)), (0, vR (some (0, 0))), (2, vI v14)]) dX1_wrong_87 rfl (by decide) rfl ?_
  refine oX_iconst (v := (0 : Int32)) dX1_wrong_88 (by decide) ?_
  refine oX_istore (ls' := [(4, vI (0 : Int32)), (3, vI (0 : Int32)), (0, vR (some (0, 0))), (2, vI v14)]) dX1_wrong_89 (by decide) rfl ?_
  obtain ⟨b31, g31, hm⟩ := bd_s hm
  refine oX_cost hm (fun qq31 hm => ?_)
  refine oX_sub [2, 3, 1, 0] rfl (l_mX1_wrong_b91 n v14 n (0 : Int32) (0 : Int32) AI15 _ g31 ?_)
  generalize b31.1 = v31 at hm ⊢
  refine oX_iload_n dX1_wrong_194 rfl rfl ?_
  obtain ⟨rfl, rfl⟩ := oEnd hm
  exact oX_iret dX1_wrong_195 rfl rfl hK
theorem t_X1_wrong {G : OhG} {FI AI : OhI} {FL AL : OhL} {FR GR AR BR : OhQ} {AN : OhN} {C : OhC} (n : Nat) (x1 : Int32) {o : (Int32 × OhI × OhQ × OhI × OhQ × OhN × OhC) × (Nat × Nat)} (hm : mX1_wrong n FI FR GR AI AR BR AN C x1 = some o) : oT G 8 iX1_wrong [vR (some (0, 0)), vI x1] (FI, FL, FR, GR, AI, AL, AR, BR, AN, C) o.2 (fun v h => v = (some (vI o.1.1)) ∧ h = (o.1.2.1, FL, FR, o.1.2.2.1, o.1.2.2.2.1, AL, AR, o.1.2.2.2.2.1, o.1.2.2.2.2.2.1, o.1.2.2.2.2.2.2)) ohNo :=
  oT_of (by decide) rfl (Nat.le_of_ble_eq_true rfl) (x_mX1_wrong (k := (0, 0)) n x1 hm ⟨rfl, rfl⟩)
noncomputable def mX1_putIn_b67 (n : Nat) (FI : OhI) (FR : OhQ) (GR : OhQ) (AI : OhI) (AR : OhQ) (BR : OhQ) (AN : OhN) (C : OhC) (x1 : Int32) (x4 : OhR) (x5 : Int32) : Option (((Int32 × OhI) ⊕ (OhI)) × (Nat × Nat)) :=
  gd (ohShH FR AR AN) <|
  gd (vp_in x1 6) <|
  (oD 14 (BR 329 0 x1.toNatClampNeg)).bind fun a16 =>
  (mX15_roles FI FR a16).bind fun r17 =>
  (if r17 ≤ x5 then
  some (.inr AI, (0, 0))
else
  (if x4 = none then
    some (.inr AI, (0, 0))
  else
    gd (vp_in x1 6) <|
      gd (vp_in (FI a16.1 a16.2 0) 66) <|
      (oD 14 x4).bind fun a22 =>
      gd (vp_in (FI a22.1 a22.2 0) 66) <|
      gd (vp_in x5 8) <|
      gd (vp_in x5 8) <|
      oLet (sA AI 419 ((FI a16.1 a16.2 0).toNatClampNeg) (uA (AI 419 ((FI a16.1 a16.2 0).toNatClampNeg)) x5.toNatClampNeg (AI 419 ((FI a22.1 a22.2 0).toNatClampNeg) x5.toNatClampNeg))) fun AI25 =>
      some (.inl (x5 + (1 : Int32), AI25), (0, 0))))
theorem x_mX1_putIn_b67 {G : OhG} {FI AI : OhI} {FL AL : OhL} {FR GR AR BR : OhQ} {AN : OhN} {C : OhC} {k : Nat × Nat} {Φ : OhP} {Ψ : OhX} (n : Nat) (x1 : Int32) (x4 : OhR) (x5 : Int32) {r : ((Int32 × OhI) ⊕ (OhI)) × (Nat × Nat)} (hm : mX1_putIn_b67 n FI FR GR AI AR BR AN C x1 x4 x5 = some r) (hk : ∀ v : Int32 × OhI, r.1 = .inl v → oX G 5 iX1_putIn 67 [(0, vR (some (0, 0))), (1, vI x1), (4, vR x4), (5, vI v.1)] [] (FI, FL, FR, GR, v.2, AL, AR, BR, AN, C) k Φ Ψ) (hx1 : ∀ v : OhI, r.1 = .inr v → oX G 5 iX1_putIn 122 [] [] (FI, FL, FR, GR, v, AL, AR, BR, AN, C) k Φ Ψ) : oX G 5 iX1_putIn 67 [(0, vR (some (0, 0))), (1, vI x1), (4, vR x4), (5, vI x5)] [] (FI, FL, FR, GR, AI, AL, AR, BR, AN, C) (oPl r.2 k) Φ Ψ := by
  obtain ⟨r, q0⟩ := r
  unfold mX1_putIn_b67 at hm
  refine oX_iload dX1_putIn_67 rfl ?_
  refine oX_aload_n dX1_putIn_69 rfl rfl ?_
  obtain ⟨s14, hm⟩ := gd_s hm
  refine oX_getF fX1_99 rfl oDs0 dX1_putIn_70 (ohF329 s14) ?_
  refine oX_iload_n dX1_putIn_73 rfl rfl ?_
  obtain ⟨g15, hm⟩ := gd_s hm
  refine oX_aaldC oDs329 (oIn (ohN329 s14) g15) dX1_putIn_74 rfl ?_
  obtain ⟨a16, e16, hm⟩ := bd_s hm
  obtain ⟨r17, g17, hm⟩ := bd_s hm
  refine oX_cV (as := []) dX1_putIn_75 rfl e16 rfl (by decide) rfl ok_X15_roles rfl rfl q1352 q1353 q1354 q165 q1355 (by decide) (Nat.le_of_ble_eq_true rfl) (t_X15_roles a16 ((oD_some e16).2) g17) ?_
  refine oX_icmp_ge (tgt := 122) dX1_putIn_78 (by decide) (fun c18 => ?_) (fun c18 => ?_)
  · have hm := ifp c18 hm
    obtain ⟨hr, rfl⟩ := oEnd hm
    exact oX_sub [] rfl (oX_z (hx1 AI hr))
  · have hm := ifn c18 hm
    refine oX_aload dX1_putIn_81 rfl ?_
    refine oX_ifnull (tgt := 122) dX1_putIn_83 (by decide) (fun c19 => ?_) (fun c19 => ?_)
    · have hm := ifp c19 hm
      obtain ⟨hr, rfl⟩ := oEnd hm
      exact oX_sub [] rfl (oX_z (hx1 AI hr))
    · have hm := ifn c19 hm
      refine oX_aload_n dX1_putIn_86 rfl rfl ?_
      refine oX_getF fX1_64 rfl oDs0 dX1_putIn_87 (ohF319 s14) ?_
      refine oX_aload_n dX1_putIn_90 rfl rfl ?_
      refine oX_getF fX1_99 rfl oDs0 dX1_putIn_91 (ohF329 s14) ?_
      refine oX_iload_n dX1_putIn_94 rfl rfl ?_
      obtain ⟨g20, hm⟩ := gd_s hm
      refine oX_aaldC oDs329 (oIn (ohN329 s14) g20) dX1_putIn_95 rfl ?_
      refine oX_getI fX1_233 rfl e16 dX1_putIn_96 ?_
      obtain ⟨g21, hm⟩ := gd_s hm
      refine oX_aaldR oDs319 (oIn (ohN319 s14) g21) dX1_putIn_99 (ohA319 s14 (oLt g21)) ?_
      refine oX_iload dX1_putIn_100 rfl ?_
      refine oX_aload_n dX1_putIn_102 rfl rfl ?_
      refine oX_getF fX1_64 rfl oDs0 dX1_putIn_103 (ohF319 s14) ?_
      refine oX_aload dX1_putIn_106 rfl ?_
      obtain ⟨a22, e22, hm⟩ := bd_s hm
      refine oX_getI fX1_233 rfl e22 dX1_putIn_108 ?_
      obtain ⟨g23, hm⟩ := gd_s hm
      refine oX_aaldR oDs319 (oIn (ohN319 s14) g23) dX1_putIn_111 (ohA319 s14 (oLt g23)) ?_
      refine oX_iload dX1_putIn_112 rfl ?_
      obtain ⟨g24, hm⟩ := gd_s hm
      refine oX_iald oDs419 (oIn (ohM419 s14 (oLt g23)) g24) dX1_putIn_114 ?_
      obtain ⟨g25, hm⟩ := gd_s hm
      obtain ⟨AI25, hAI25, hm⟩ := oLs hm
      refine oX_iast oDs419 (oIn (ohM419 s14 (oLt g21)) g25) dX1_putIn_115 hAI25 ?_
      refine oX_iinc (v := x5 + (1 : Int32)) (ls' := [(5, vI (x5 + (1 : Int32))), (0, vR (some (0, 0))), (1, vI x1), (4, vR x4)]) dX1_putIn_116 rfl rfl (by decide) rfl ?_
      refine oX_goto (tgt := 67) dX1_putIn_119 (by decide) ?_
      obtain ⟨hr, rfl⟩ := oEnd hm
      exact oX_sub [1, 2, 3, 0] rfl (oX_z (hk (x5 + (1 : Int32), AI25) hr))
theorem l_mX1_putIn_b67 {G : OhG} {FI : OhI} {FL : OhL} {FR : OhQ} {GR : OhQ} {AL : OhL} {AR : OhQ} {BR : OhQ} {AN : OhN} {C : OhC} {k : Nat × Nat} {Φ : OhP} {Ψ : OhX} (n : Nat) (x1 : Int32) (x4 : OhR) : ∀ (f : Nat) (x5 : Int32) (AI : OhI) (b : ((OhI)) × (Nat × Nat)), lpK (fun v => mX1_putIn_b67 n FI FR GR v.2 AR BR AN C x1 x4 v.1) f (x5, AI) = some b → (oX G 5 iX1_putIn 122 [] [] (FI, FL, FR, GR, b.1, AL, AR, BR, AN, C) k Φ Ψ) → oX G 5 iX1_putIn 67 [(0, vR (some (0, 0))), (1, vI x1), (4, vR x4), (5, vI x5)] [] (FI, FL, FR, GR, AI, AL, AR, BR, AN, C) (oPl b.2 k) Φ Ψ := by
  intro f
  induction f with
  | zero =>
    intro x5 AI b hm
    cases hm
  | succ f ih =>
    intro x5 AI b hm hx1
    obtain ⟨⟨r, q⟩, hr, hm⟩ := lk_s hm
    rcases r with v | v
    · obtain ⟨c, hm, hb⟩ := hm
      rw [hb, oPl_assoc]
      refine x_mX1_putIn_b67 n x1 x4 x5 hr (fun v9 e => ?_) (fun v9 e => by cases e)
      cases e; exact ih v.1 v.2 (b.1, c) hm hx1
    · cases (show b = (v, q) from hm)
      refine x_mX1_putIn_b67 n x1 x4 x5 hr (fun v9 e => by cases e) (fun v9 e => ?_)
      · cases e; exact hx1
noncomputable def mX1_putIn (n : Nat) (FI : OhI) (FR : OhQ) (GR : OhQ) (AI : OhI) (AR : OhQ) (BR : OhQ) (AN : OhN) (C : OhC) (x1 : Int32) (x2 : Int32) : Option ((OhI × OhQ × OhI × OhQ × OhC) × (Nat × Nat)) :=
  gd (ohShH FR AR AN) <|
  gd (vp_in x1 6) <|
  (mJ2_get FI GR AR BR AN (309, 0) (AI 330 0 x1.toNatClampNeg)).bind fun r3 =>
  (oD 4 r3).bind fun a4 =>
  (mX1_firstOf n FI FR GR AR BR AN (some a4)).bind fun r5 =>
  oLet (sA FI 16 (C 16) (fun _ => 0)) fun FI6 =>
  oLet (sA FR 16 (C 16) (fun _ => none)) fun FR6 =>
  oLet (uA C 16 (C 16 + 1)) fun C6 =>
  oCost (1, 7) <|
  gd (ohShH FR6 AR AN) <|
  (mJ2_size FI6 (311, 0)).bind fun r8 =>
  (mX15_init FI6 FR6 (16, C 16) (r8 + x1) x2 (FI6 0 0 33) (3 : Int32) (some a4) (3 : Int32)).bind fun r9 =>
  gd (ohShH r9.2 AR AN) <|
  gd (vp_in x1 6) <|
  oLet (sA BR 329 0 (uA (BR 329 0) x1.toNatClampNeg (some (16, C 16)))) fun BR10 =>
  gd (vp_in x1 6) <|
  (mX1_enter n r9.1 r9.2 AI AR BR10 AN (BR10 329 0 x1.toNatClampNeg)).bind fun r13 =>
  (lpK (fun v => mX1_putIn_b67 n r13.1 r9.2 GR v.2 AR r13.2.2 AN C6 x1 r5 v.1) n ((0 : Int32), r13.2.1)).bind fun b26 => oCost b26.2 <| (fun v26 => some ((r13.1, r9.2, v26, r13.2.2, C6), (0, 0))) b26.1
theorem x_mX1_putIn {G : OhG} {FI AI : OhI} {FL AL : OhL} {FR GR AR BR : OhQ} {AN : OhN} {C : OhC} {k : Nat × Nat} {Φ : OhP} {Ψ : OhX} (n : Nat) (x1 : Int32) (x2 : Int32) {r : (OhI × OhQ × OhI × OhQ × OhC) × (Nat × Nat)} (hm : mX1_putIn n FI FR GR AI AR BR AN C x1 x2 = some r) (hK : Φ none (r.1.1, FL, r.1.2.1, GR, r.1.2.2.1, AL, AR, r.1.2.2.2.1, AN, r.1.2.2.2.2)) : oX G 5 iX1_putIn 0 [(0, vR (some (0, 0))), (1, vI x1), (2, vI x2)] [] (FI, FL, FR, GR, AI, AL, AR, BR, AN, C) (oPl r.2 k) Φ Ψ := by
  obtain ⟨r, q0⟩ := r
  unfold mX1_putIn at hm
  refine oX_aload_n dX1_putIn_0 rfl rfl ?_
  obtain ⟨s1, hm⟩ := gd_s hm
  refine oX_getF fX1_30 rfl oDs0 dX1_putIn_1 (ohF309 s1) ?_
  refine oX_aload_n dX1_putIn_4 rfl rfl ?_
  refine oX_getF fX1_102 rfl oDs0 dX1_putIn_5 (ohF330 s1) ?_
  refine oX_iload_n dX1_putIn_8 rfl rfl ?_
  obtain ⟨g2, hm⟩ := gd_s hm
  refine oX_iald oDs330 (oIn (ohN330 s1) g2) dX1_putIn_9 ?_
  obtain ⟨r3, g3, hm⟩ := bd_s hm
  refine oX_cV (as := [vI (AI 330 0 x1.toNatClampNeg)]) dX1_putIn_10 rfl oDs309 rfl (by decide) rfl ok_J2_get rfl rfl q648 q649 q650 q132 q651 (by decide) (Nat.le_of_ble_eq_true rfl) (t_J2_get (309, 0) rfl (AI 330 0 x1.toNatClampNeg) g3) ?_
  obtain ⟨a4, e4, hm⟩ := bd_s hm
  refine oX_cast e4 rfl (by decide) q434 dX1_putIn_13 ?_
  refine oX_astore_n (ls' := [(3, vR (some a4)), (0, vR (some (0, 0))), (1, vI x1), (2, vI x2)]) dX1_putIn_16 rfl (by decide) rfl ?_
  refine oX_aload_n dX1_putIn_17 rfl rfl ?_
  refine oX_aload_n dX1_putIn_18 rfl rfl ?_
  obtain ⟨r5, g5, hm⟩ := bd_s hm
  refine oX_cV (as := [vR (some a4)]) dX1_putIn_19 rfl oDs0 rfl (by decide) rfl ok_X1_firstOf rfl rfl q1646 q1648 qs55 q129 q1649 (by decide) (Nat.le_of_ble_eq_true rfl) (t_X1_firstOf s1 n (some a4) g5) ?_
  refine oX_astore (ls' := [(4, vR r5), (3, vR (some a4)), (0, vR (some (0, 0))), (1, vI x1), (2, vI x2)]) dX1_putIn_22 (by decide) rfl ?_
  refine oX_aload_n dX1_putIn_24 rfl rfl ?_
  refine oX_getF fX1_99 rfl oDs0 dX1_putIn_25 (ohF329 s1) ?_
  refine oX_iload_n dX1_putIn_28 rfl rfl ?_
  obtain ⟨FI6, hFI6, hm⟩ := oLs hm
  obtain ⟨FR6, hFR6, hm⟩ := oLs hm
  obtain ⟨C6, hC6, hm⟩ := oLs hm
  refine oX_cost hm (fun qq6 hm => ?_)
  refine oX_newIF (s9 := 16) (k := oPl qq6 k) nX1_56 rfl (by decide) dX1_putIn_29 hFI6 hFR6 hC6 ?_
  refine oX_dup dX1_putIn_32 trivial ?_
  refine oX_aload_n dX1_putIn_33 rfl rfl ?_
  obtain ⟨s7, hm⟩ := gd_s hm
  refine oX_getF fX1_37 rfl oDs0 dX1_putIn_34 (ohF311 s7) ?_
  obtain ⟨r8, g8, hm⟩ := bd_s hm
  refine oX_cV (as := []) dX1_putIn_37 rfl oDs311 rfl (by decide) rfl ok_J2_size rfl rfl q430 q431 q432 q132 q433 (by decide) (Nat.le_of_ble_eq_true rfl) (t_J2_size (311, 0) rfl g8) ?_
  refine oX_iload_n dX1_putIn_40 rfl rfl ?_
  refine oX_iadd dX1_putIn_41 ?_
  refine oX_iload_n dX1_putIn_42 rfl rfl ?_
  refine oX_aload_n dX1_putIn_43 rfl rfl ?_
  refine oX_getI fX1_472 rfl oDs0 dX1_putIn_44 ?_
  refine oX_iconst (v := (3 : Int32)) dX1_putIn_47 (by decide) ?_
  refine oX_aload_n dX1_putIn_48 rfl rfl ?_
  refine oX_iconst (v := (3 : Int32)) dX1_putIn_49 (by decide) ?_
  obtain ⟨r9, g9, hm⟩ := bd_s hm
  refine oX_cI (as := [vI (r8 + x1), vI x2, vI (FI6 0 0 33), vI (3 : Int32), vR (some a4), vI (3 : Int32)]) dX1_putIn_50 rfl ok_X15_init rfl rfl rfl q1310 q1311 q165 q1312 (by decide) (Nat.le_of_ble_eq_true rfl) (t_X15_init (16, C 16) rfl (r8 + x1) x2 (FI6 0 0 33) (3 : Int32) (some a4) (3 : Int32) g9) ?_
  obtain ⟨s11, hm⟩ := gd_s hm
  obtain ⟨g10, hm⟩ := gd_s hm
  obtain ⟨BR10, hBR10, hm⟩ := oLs hm
  refine oX_aast5 oDs329 (oIn (ohN329 s11) g10) (Or.inr ⟨_, oDs16⟩) dX1_putIn_53 hBR10 ?_
  refine oX_aload_n dX1_putIn_54 rfl rfl ?_
  refine oX_aload_n dX1_putIn_55 rfl rfl ?_
  refine oX_getF fX1_99 rfl oDs0 dX1_putIn_56 (ohF329 s11) ?_
  refine oX_iload_n dX1_putIn_59 rfl rfl ?_
  obtain ⟨g12, hm⟩ := gd_s hm
  refine oX_aaldC oDs329 (oIn (ohN329 s11) g12) dX1_putIn_60 rfl ?_
  obtain ⟨r13, g13, hm⟩ := bd_s hm
  refine oX_cV_ (as := [vR (BR10 329 0 x1.toNatClampNeg)]) dX1_putIn_61 rfl oDs0 rfl (by decide) rfl ok_X1_enter rfl rfl q1422 q1424 qs26 q129 q1425 (by decide) (Nat.le_of_ble_eq_true rfl) (t_X1_enter s11 n (BR10 329 0 x1.toNatClampNeg) g13) ?_
  refine oX_iconst (v := (0 : Int32)) dX1_putIn_64 (by decide) ?_
  refine oX_istore (ls' := [(5, vI (0 : Int32)), (4, vR r5), (3, vR (some a4)), (0, vR (some (0, 0))), (1, vI x1), (2, vI x2)]) dX1_putIn_65 (by decide) rfl ?_
  obtain ⟨b26, g26, hm⟩ := bd_s hm
  refine oX_cost hm (fun qq26 hm => ?_)
  refine oX_sub [3, 4, 1, 0] rfl (l_mX1_putIn_b67 n x1 r5 n (0 : Int32) r13.2.1 _ g26 ?_)
  generalize b26.1 = v26 at hm ⊢
  obtain ⟨rfl, rfl⟩ := oEnd hm
  exact oX_vret dX1_putIn_122 rfl hK
theorem t_X1_putIn {G : OhG} {FI AI : OhI} {FL AL : OhL} {FR GR AR BR : OhQ} {AN : OhN} {C : OhC} (n : Nat) (x1 : Int32) (x2 : Int32) {o : (OhI × OhQ × OhI × OhQ × OhC) × (Nat × Nat)} (hm : mX1_putIn n FI FR GR AI AR BR AN C x1 x2 = some o) : oT G 5 iX1_putIn [vR (some (0, 0)), vI x1, vI x2] (FI, FL, FR, GR, AI, AL, AR, BR, AN, C) o.2 (fun v h => v = none ∧ h = (o.1.1, FL, o.1.2.1, GR, o.1.2.2.1, AL, AR, o.1.2.2.2.1, AN, o.1.2.2.2.2)) ohNo :=
  oT_of (by decide) rfl (Nat.le_of_ble_eq_true rfl) (x_mX1_putIn (k := (0, 0)) n x1 x2 hm ⟨rfl, rfl⟩)
noncomputable def mX1_keep_b42 (n : Nat) (FI : OhI) (FR : OhQ) (GR : OhQ) (AI : OhI) (AR : OhQ) (BR : OhQ) (AN : OhN) (C : OhC) (x1 : Int32) (x2 : Int32) (x3 : Int32) : Option (((Int32 × Int32) ⊕ (Int32)) × (Nat × Nat)) :=
  gd (ohShH FR AR AN) <|
  gd (vp_in x2 6) <|
  (oD 14 (BR 329 0 x2.toNatClampNeg)).bind fun a8 =>
  (mX15_roles FI FR a8).bind fun r9 =>
  (if r9 ≤ x3 then
  some (.inr x1, (0, 0))
else
  (mX1_castOfFirst n FI FR GR AI AR BR AN x2 x3).bind fun r11 =>
    (if r11 = (-1 : Int32) then
    some (.inl (x1, x3 + (1 : Int32)), (0, 0))
  else
    some (.inl (x1 + (1 : Int32), x3 + (1 : Int32)), (0, 0))))
theorem x_mX1_keep_b42 {G : OhG} {FI AI : OhI} {FL AL : OhL} {FR GR AR BR : OhQ} {AN : OhN} {C : OhC} {k : Nat × Nat} {Φ : OhP} {Ψ : OhX} (n : Nat) (x1 : Int32) (x2 : Int32) (x3 : Int32) {r : ((Int32 × Int32) ⊕ (Int32)) × (Nat × Nat)} (hm : mX1_keep_b42 n FI FR GR AI AR BR AN C x1 x2 x3 = some r) (hk : ∀ v : Int32 × Int32, r.1 = .inl v → oX G 8 iX1_keep 42 [(0, vR (some (0, 0))), (1, vI v.1), (2, vI x2), (3, vI v.2)] [] (FI, FL, FR, GR, AI, AL, AR, BR, AN, C) k Φ Ψ) (hx1 : ∀ v : Int32, r.1 = .inr v → oX G 8 iX1_keep 74 [(0, vR (some (0, 0))), (1, vI v), (2, vI x2)] [] (FI, FL, FR, GR, AI, AL, AR, BR, AN, C) k Φ Ψ) : oX G 8 iX1_keep 42 [(0, vR (some (0, 0))), (1, vI x1), (2, vI x2), (3, vI x3)] [] (FI, FL, FR, GR, AI, AL, AR, BR, AN, C) (oPl r.2 k) Φ Ψ := by
  obtain ⟨r, q0⟩ := r
  unfold mX1_keep_b42 at hm
  refine oX_iload_n dX1_keep_42 rfl rfl ?_
  refine oX_aload_n dX1_keep_43 rfl rfl ?_
  obtain ⟨s6, hm⟩ := gd_s hm
  refine oX_getF fX1_99 rfl oDs0 dX1_keep_44 (ohF329 s6) ?_
  refine oX_iload_n dX1_keep_47 rfl rfl ?_
  obtain ⟨g7, hm⟩ := gd_s hm
  refine oX_aaldC oDs329 (oIn (ohN329 s6) g7) dX1_keep_48 rfl ?_
  obtain ⟨a8, e8, hm⟩ := bd_s hm
  obtain ⟨r9, g9, hm⟩ := bd_s hm
  refine oX_cV (as := []) dX1_keep_49 rfl e8 rfl (by decide) rfl ok_X15_roles rfl rfl q1352 q1353 q1354 q165 q1355 (by decide) (Nat.le_of_ble_eq_true rfl) (t_X15_roles a8 ((oD_some e8).2) g9) ?_
  refine oX_icmp_ge (tgt := 74) dX1_keep_52 (by decide) (fun c10 => ?_) (fun c10 => ?_)
  · have hm := ifp c10 hm
    obtain ⟨hr, rfl⟩ := oEnd hm
    exact oX_sub [0, 1, 2] rfl (oX_z (hx1 x1 hr))
  · have hm := ifn c10 hm
    refine oX_aload_n dX1_keep_55 rfl rfl ?_
    refine oX_iload_n dX1_keep_56 rfl rfl ?_
    refine oX_iload_n dX1_keep_57 rfl rfl ?_
    obtain ⟨r11, g11, hm⟩ := bd_s hm
    refine oX_cV (as := [vI x2, vI x3]) dX1_keep_58 rfl oDs0 rfl (by decide) rfl ok_X1_castOfFirst rfl rfl q1666 q1668 qs58 q129 q1669 (by decide) (Nat.le_of_ble_eq_true rfl) (t_X1_castOfFirst s6 n x2 x3 g11) ?_
    refine oX_iconst (v := (-1 : Int32)) dX1_keep_61 (by decide) ?_
    refine oX_icmp_eq (tgt := 68) dX1_keep_62 (by decide) (fun c12 => ?_) (fun c12 => ?_)
    · have hm := ifp c12 hm
      refine oX_iinc (v := x3 + (1 : Int32)) (ls' := [(3, vI (x3 + (1 : Int32))), (0, vR (some (0, 0))), (1, vI x1), (2, vI x2)]) dX1_keep_68 rfl rfl (by decide) rfl ?_
      refine oX_goto (tgt := 42) dX1_keep_71 (by decide) ?_
      obtain ⟨hr, rfl⟩ := oEnd hm
      exact oX_sub [1, 2, 3, 0] rfl (oX_z (hk (x1, x3 + (1 : Int32)) hr))
    · have hm := ifn c12 hm
      refine oX_iinc (v := x1 + (1 : Int32)) (ls' := [(1, vI (x1 + (1 : Int32))), (0, vR (some (0, 0))), (2, vI x2), (3, vI x3)]) dX1_keep_65 rfl rfl (by decide) rfl ?_
      refine oX_iinc (v := x3 + (1 : Int32)) (ls' := [(3, vI (x3 + (1 : Int32))), (1, vI (x1 + (1 : Int32))), (0, vR (some (0, 0))), (2, vI x2)]) dX1_keep_68 rfl rfl (by decide) rfl ?_
      refine oX_goto (tgt := 42) dX1_keep_71 (by decide) ?_
      obtain ⟨hr, rfl⟩ := oEnd hm
      exact oX_sub [2, 1, 3, 0] rfl (oX_z (hk (x1 + (1 : Int32), x3 + (1 : Int32)) hr))
theorem l_mX1_keep_b42 {G : OhG} {FI : OhI} {FL : OhL} {FR : OhQ} {GR : OhQ} {AI : OhI} {AL : OhL} {AR : OhQ} {BR : OhQ} {AN : OhN} {C : OhC} {k : Nat × Nat} {Φ : OhP} {Ψ : OhX} (n : Nat) (x2 : Int32) : ∀ (f : Nat) (x1 : Int32) (x3 : Int32) (b : ((Int32)) × (Nat × Nat)), lpK (fun v => mX1_keep_b42 n FI FR GR AI AR BR AN C v.1 x2 v.2) f (x1, x3) = some b → (oX G 8 iX1_keep 74 [(0, vR (some (0, 0))), (1, vI b.1), (2, vI x2)] [] (FI, FL, FR, GR, AI, AL, AR, BR, AN, C) k Φ Ψ) → oX G 8 iX1_keep 42 [(0, vR (some (0, 0))), (1, vI x1), (2, vI x2), (3, vI x3)] [] (FI, FL, FR, GR, AI, AL, AR, BR, AN, C) (oPl b.2 k) Φ Ψ := by
  intro f
  induction f with
  | zero =>
    intro x1 x3 b hm
    cases hm
  | succ f ih =>
    intro x1 x3 b hm hx1
    obtain ⟨⟨r, q⟩, hr, hm⟩ := lk_s hm
    rcases r with v | v
    · obtain ⟨c, hm, hb⟩ := hm
      rw [hb, oPl_assoc]
      refine x_mX1_keep_b42 n x1 x2 x3 hr (fun v9 e => ?_) (fun v9 e => by cases e)
      cases e; exact ih v.1 v.2 (b.1, c) hm hx1
    · cases (show b = (v, q) from hm)
      refine x_mX1_keep_b42 n x1 x2 x3 hr (fun v9 e => by cases e) (fun v9 e => ?_)
      · cases e; exact hx1
noncomputable def mX1_keep_b32 (n : Nat) (FI : OhI) (FR : OhQ) (GR : OhQ) (AI : OhI) (AR : OhQ) (BR : OhQ) (AN : OhN) (C : OhC) (x1 : Int32) (x2 : Int32) : Option (((Int32 × Int32) ⊕ (Int32)) × (Nat × Nat)) :=
  (if (FI 0 0 35) ≤ x2 then
  some (.inr x1, (0, 0))
else
  (lpK (fun v => mX1_keep_b42 n FI FR GR AI AR BR AN C v.1 x2 v.2) n (x1, (0 : Int32))).bind fun b13 => oCost b13.2 <| (fun v13 => some (.inl (v13, x2 + (1 : Int32)), (0, 0))) b13.1)
theorem x_mX1_keep_b32 {G : OhG} {FI AI : OhI} {FL AL : OhL} {FR GR AR BR : OhQ} {AN : OhN} {C : OhC} {k : Nat × Nat} {Φ : OhP} {Ψ : OhX} (n : Nat) (x1 : Int32) (x2 : Int32) {r : ((Int32 × Int32) ⊕ (Int32)) × (Nat × Nat)} (hm : mX1_keep_b32 n FI FR GR AI AR BR AN C x1 x2 = some r) (hk : ∀ v : Int32 × Int32, r.1 = .inl v → oX G 8 iX1_keep 32 [(0, vR (some (0, 0))), (1, vI v.1), (2, vI v.2)] [] (FI, FL, FR, GR, AI, AL, AR, BR, AN, C) k Φ Ψ) (hx1 : ∀ v : Int32, r.1 = .inr v → oX G 8 iX1_keep 80 [(0, vR (some (0, 0))), (1, vI v)] [] (FI, FL, FR, GR, AI, AL, AR, BR, AN, C) k Φ Ψ) : oX G 8 iX1_keep 32 [(0, vR (some (0, 0))), (1, vI x1), (2, vI x2)] [] (FI, FL, FR, GR, AI, AL, AR, BR, AN, C) (oPl r.2 k) Φ Ψ := by
  obtain ⟨r, q0⟩ := r
  unfold mX1_keep_b32 at hm
  refine oX_iload_n dX1_keep_32 rfl rfl ?_
  refine oX_aload_n dX1_keep_33 rfl rfl ?_
  refine oX_getI fX1_497 rfl oDs0 dX1_keep_34 ?_
  refine oX_icmp_ge (tgt := 80) dX1_keep_37 (by decide) (fun c5 => ?_) (fun c5 => ?_)
  · have hm := ifp c5 hm
    obtain ⟨hr, rfl⟩ := oEnd hm
    exact oX_sub [0, 1] rfl (oX_z (hx1 x1 hr))
  · have hm := ifn c5 hm
    refine oX_iconst (v := (0 : Int32)) dX1_keep_40 (by decide) ?_
    refine oX_istore_n (ls' := [(3, vI (0 : Int32)), (0, vR (some (0, 0))), (1, vI x1), (2, vI x2)]) dX1_keep_41 rfl (by decide) rfl ?_
    obtain ⟨b13, g13, hm⟩ := bd_s hm
    refine oX_cost hm (fun qq13 hm => ?_)
    refine oX_sub [1, 2, 3, 0] rfl (l_mX1_keep_b42 n x2 n x1 (0 : Int32) _ g13 ?_)
    generalize b13.1 = v13 at hm ⊢
    refine oX_iinc (v := x2 + (1 : Int32)) (ls' := [(2, vI (x2 + (1 : Int32))), (0, vR (some (0, 0))), (1, vI v13)]) dX1_keep_74 rfl rfl (by decide) rfl ?_
    refine oX_goto (tgt := 32) dX1_keep_77 (by decide) ?_
    obtain ⟨hr, rfl⟩ := oEnd hm
    exact oX_sub [1, 2, 0] rfl (oX_z (hk (v13, x2 + (1 : Int32)) hr))
theorem l_mX1_keep_b32 {G : OhG} {FI : OhI} {FL : OhL} {FR : OhQ} {GR : OhQ} {AI : OhI} {AL : OhL} {AR : OhQ} {BR : OhQ} {AN : OhN} {C : OhC} {k : Nat × Nat} {Φ : OhP} {Ψ : OhX} (n : Nat) : ∀ (f : Nat) (x1 : Int32) (x2 : Int32) (b : ((Int32)) × (Nat × Nat)), lpK (fun v => mX1_keep_b32 n FI FR GR AI AR BR AN C v.1 v.2) f (x1, x2) = some b → (oX G 8 iX1_keep 80 [(0, vR (some (0, 0))), (1, vI b.1)] [] (FI, FL, FR, GR, AI, AL, AR, BR, AN, C) k Φ Ψ) → oX G 8 iX1_keep 32 [(0, vR (some (0, 0))), (1, vI x1), (2, vI x2)] [] (FI, FL, FR, GR, AI, AL, AR, BR, AN, C) (oPl b.2 k) Φ Ψ := by
  intro f
  induction f with
  | zero =>
    intro x1 x2 b hm
    cases hm
  | succ f ih =>
    intro x1 x2 b hm hx1
    obtain ⟨⟨r, q⟩, hr, hm⟩ := lk_s hm
    rcases r with v | v
    · obtain ⟨c, hm, hb⟩ := hm
      rw [hb, oPl_assoc]
      refine x_mX1_keep_b32 n x1 x2 hr (fun v9 e => ?_) (fun v9 e => by cases e)
      cases e; exact ih v.1 v.2 (b.1, c) hm hx1
    · cases (show b = (v, q) from hm)
      refine x_mX1_keep_b32 n x1 x2 hr (fun v9 e => by cases e) (fun v9 e => ?_)
      · cases e; exact hx1
noncomputable def mX1_keep_b109 (n : Nat) (FI : OhI) (FR : OhQ) (GR : OhQ) (AI : OhI) (AR : OhQ) (BR : OhQ) (AN : OhN) (C : OhC) (x2 : Int32) (x3 : Int32) : Option (((Int32 × OhI × OhQ × OhQ × OhN × OhC) ⊕ (OhI × OhQ × OhQ × OhN × OhC)) × (Nat × Nat)) :=
  gd (ohShH FR AR AN) <|
  gd (vp_in x2 6) <|
  (oD 14 (BR 329 0 x2.toNatClampNeg)).bind fun a20 =>
  (mX15_roles FI FR a20).bind fun r21 =>
  (if r21 ≤ x3 then
  some (.inr (FI, GR, BR, AN, C), (0, 0))
else
  (mX1_castOfFirst n FI FR GR AI AR BR AN x2 x3).bind fun r23 =>
    (if r23 = (-1 : Int32) then
    some (.inl (x3 + (1 : Int32), FI, GR, BR, AN, C), (0, 0))
  else
    oLet (sA FI 18 (C 18) (fun _ => 0)) fun FI25 =>
      oLet (uA C 18 (C 18 + 1)) fun C25 =>
      oCost (1, 5) <|
      gd (vp_in x2 6) <|
      (mX1_castOfFirst n FI25 FR GR AI AR BR AN x2 x3).bind fun r27 =>
      (mX16_init FI25 (18, C 18) (FI25 a20.1 a20.2 0) x3 r27 (0 : Int32) (FI25 0 0 3)).bind fun r28 =>
      (mJ2_add r28 GR BR AN C25 (312, 0) (some (18, C 18))).bind fun r29 =>
      oCost r29.2 <|
      some (.inl (x3 + (1 : Int32), r29.1.2.1, r29.1.2.2.1, r29.1.2.2.2.1, r29.1.2.2.2.2.1, r29.1.2.2.2.2.2), (0, 0))))
theorem x_mX1_keep_b109 {G : OhG} {FI AI : OhI} {FL AL : OhL} {FR GR AR BR : OhQ} {AN : OhN} {C : OhC} {k : Nat × Nat} {Φ : OhP} {Ψ : OhX} (n : Nat) (x2 : Int32) (x3 : Int32) {r : ((Int32 × OhI × OhQ × OhQ × OhN × OhC) ⊕ (OhI × OhQ × OhQ × OhN × OhC)) × (Nat × Nat)} (hm : mX1_keep_b109 n FI FR GR AI AR BR AN C x2 x3 = some r) (hk : ∀ v : Int32 × OhI × OhQ × OhQ × OhN × OhC, r.1 = .inl v → oX G 8 iX1_keep 109 [(0, vR (some (0, 0))), (2, vI x2), (3, vI v.1)] [] (v.2.1, FL, FR, v.2.2.1, AI, AL, AR, v.2.2.2.1, v.2.2.2.2.1, v.2.2.2.2.2) k Φ Ψ) (hx1 : ∀ v : OhI × OhQ × OhQ × OhN × OhC, r.1 = .inr v → oX G 8 iX1_keep 174 [(0, vR (some (0, 0))), (2, vI x2)] [] (v.1, FL, FR, v.2.1, AI, AL, AR, v.2.2.1, v.2.2.2.1, v.2.2.2.2) k Φ Ψ) : oX G 8 iX1_keep 109 [(0, vR (some (0, 0))), (2, vI x2), (3, vI x3)] [] (FI, FL, FR, GR, AI, AL, AR, BR, AN, C) (oPl r.2 k) Φ Ψ := by
  obtain ⟨r, q0⟩ := r
  unfold mX1_keep_b109 at hm
  refine oX_iload_n dX1_keep_109 rfl rfl ?_
  refine oX_aload_n dX1_keep_110 rfl rfl ?_
  obtain ⟨s18, hm⟩ := gd_s hm
  refine oX_getF fX1_99 rfl oDs0 dX1_keep_111 (ohF329 s18) ?_
  refine oX_iload_n dX1_keep_114 rfl rfl ?_
  obtain ⟨g19, hm⟩ := gd_s hm
  refine oX_aaldC oDs329 (oIn (ohN329 s18) g19) dX1_keep_115 rfl ?_
  obtain ⟨a20, e20, hm⟩ := bd_s hm
  obtain ⟨r21, g21, hm⟩ := bd_s hm
  refine oX_cV (as := []) dX1_keep_116 rfl e20 rfl (by decide) rfl ok_X15_roles rfl rfl q1352 q1353 q1354 q165 q1355 (by decide) (Nat.le_of_ble_eq_true rfl) (t_X15_roles a20 ((oD_some e20).2) g21) ?_
  refine oX_icmp_ge (tgt := 174) dX1_keep_119 (by decide) (fun c22 => ?_) (fun c22 => ?_)
  · have hm := ifp c22 hm
    obtain ⟨hr, rfl⟩ := oEnd hm
    exact oX_sub [0, 1] rfl (oX_z (hx1 (FI, GR, BR, AN, C) hr))
  · have hm := ifn c22 hm
    refine oX_aload_n dX1_keep_122 rfl rfl ?_
    refine oX_iload_n dX1_keep_123 rfl rfl ?_
    refine oX_iload_n dX1_keep_124 rfl rfl ?_
    obtain ⟨r23, g23, hm⟩ := bd_s hm
    refine oX_cV (as := [vI x2, vI x3]) dX1_keep_125 rfl oDs0 rfl (by decide) rfl ok_X1_castOfFirst rfl rfl q1666 q1668 qs58 q129 q1669 (by decide) (Nat.le_of_ble_eq_true rfl) (t_X1_castOfFirst s18 n x2 x3 g23) ?_
    refine oX_iconst (v := (-1 : Int32)) dX1_keep_128 (by decide) ?_
    refine oX_icmp_eq (tgt := 168) dX1_keep_129 (by decide) (fun c24 => ?_) (fun c24 => ?_)
    · have hm := ifp c24 hm
      refine oX_iinc (v := x3 + (1 : Int32)) (ls' := [(3, vI (x3 + (1 : Int32))), (0, vR (some (0, 0))), (2, vI x2)]) dX1_keep_168 rfl rfl (by decide) rfl ?_
      refine oX_goto (tgt := 109) dX1_keep_171 (by decide) ?_
      obtain ⟨hr, rfl⟩ := oEnd hm
      exact oX_sub [1, 2, 0] rfl (oX_z (hk (x3 + (1 : Int32), FI, GR, BR, AN, C) hr))
    · have hm := ifn c24 hm
      refine oX_aload_n dX1_keep_132 rfl rfl ?_
      refine oX_getF fX1_40 rfl oDs0 dX1_keep_133 (ohF312 s18) ?_
      obtain ⟨FI25, hFI25, hm⟩ := oLs hm
      obtain ⟨C25, hC25, hm⟩ := oLs hm
      refine oX_cost hm (fun qq25 hm => ?_)
      refine oX_newI (s9 := 18) (k := oPl qq25 k) nX1_217 rfl (by decide) dX1_keep_136 hFI25 hC25 ?_
      refine oX_dup dX1_keep_139 trivial ?_
      refine oX_aload_n dX1_keep_140 rfl rfl ?_
      refine oX_getF fX1_99 rfl oDs0 dX1_keep_141 (ohF329 s18) ?_
      refine oX_iload_n dX1_keep_144 rfl rfl ?_
      obtain ⟨g26, hm⟩ := gd_s hm
      refine oX_aaldC oDs329 (oIn (ohN329 s18) g26) dX1_keep_145 rfl ?_
      refine oX_getI fX1_233 rfl e20 dX1_keep_146 ?_
      refine oX_iload_n dX1_keep_149 rfl rfl ?_
      refine oX_aload_n dX1_keep_150 rfl rfl ?_
      refine oX_iload_n dX1_keep_151 rfl rfl ?_
      refine oX_iload_n dX1_keep_152 rfl rfl ?_
      obtain ⟨r27, g27, hm⟩ := bd_s hm
      refine oX_cV (as := [vI x2, vI x3]) dX1_keep_153 rfl oDs0 rfl (by decide) rfl ok_X1_castOfFirst rfl rfl q1666 q1668 qs58 q129 q1669 (by decide) (Nat.le_of_ble_eq_true rfl) (t_X1_castOfFirst s18 n x2 x3 g27) ?_
      refine oX_iconst (v := (0 : Int32)) dX1_keep_156 (by decide) ?_
      refine oX_aload_n dX1_keep_157 rfl rfl ?_
      refine oX_getI fX1_116 rfl oDs0 dX1_keep_158 ?_
      obtain ⟨r28, g28, hm⟩ := bd_s hm
      refine oX_cI (as := [vI (FI25 a20.1 a20.2 0), vI x3, vI r27, vI (0 : Int32), vI (FI25 0 0 3)]) dX1_keep_161 rfl ok_X16_init rfl rfl rfl q1359 q1360 q166 q1361 (by decide) (Nat.le_of_ble_eq_true rfl) (t_X16_init (18, C 18) rfl (FI25 a20.1 a20.2 0) x3 r27 (0 : Int32) (FI25 0 0 3) g28) ?_
      obtain ⟨r29, g29, hm⟩ := bd_s hm
      refine oX_cost hm (fun qq29 hm => ?_)
      refine oX_cVK (as := [vR (some (18, C 18))]) dX1_keep_164 rfl oDs312 rfl (by decide) rfl ok_J2_add rfl rfl q496 q497 q498 q132 q499 (by decide) (Nat.le_of_ble_eq_true rfl) (t_J2_add (312, 0) rfl (some (18, C 18)) g29) (Nat.le_refl _) (Nat.le_refl _) ?_
      refine oX_pop dX1_keep_167 trivial ?_
      refine oX_iinc (v := x3 + (1 : Int32)) (ls' := [(3, vI (x3 + (1 : Int32))), (0, vR (some (0, 0))), (2, vI x2)]) dX1_keep_168 rfl rfl (by decide) rfl ?_
      refine oX_goto (tgt := 109) dX1_keep_171 (by decide) ?_
      obtain ⟨hr, rfl⟩ := oEnd hm
      exact oX_sub [1, 2, 0] rfl (oX_z (hk (x3 + (1 : Int32), r29.1.2.1, r29.1.2.2.1, r29.1.2.2.2.1, r29.1.2.2.2.2.1, r29.1.2.2.2.2.2) hr))
theorem l_mX1_keep_b109 {G : OhG} {FL : OhL} {FR : OhQ} {AI : OhI} {AL : OhL} {AR : OhQ} {k : Nat × Nat} {Φ : OhP} {Ψ : OhX} (n : Nat) (x2 : Int32) : ∀ (f : Nat) (x3 : Int32) (FI : OhI) (GR : OhQ) (BR : OhQ) (AN : OhN) (C : OhC) (b : ((OhI × OhQ × OhQ × OhN × OhC)) × (Nat × Nat)), lpK (fun v => mX1_keep_b109 n v.2.1 FR v.2.2.1 AI AR v.2.2.2.1 v.2.2.2.2.1 v.2.2.2.2.2 x2 v.1) f (x3, FI, GR, BR, AN, C) = some b → (oX G 8 iX1_keep 174 [(0, vR (some (0, 0))), (2, vI x2)] [] (b.1.1, FL, FR, b.1.2.1, AI, AL, AR, b.1.2.2.1, b.1.2.2.2.1, b.1.2.2.2.2) k Φ Ψ) → oX G 8 iX1_keep 109 [(0, vR (some (0, 0))), (2, vI x2), (3, vI x3)] [] (FI, FL, FR, GR, AI, AL, AR, BR, AN, C) (oPl b.2 k) Φ Ψ := by
  intro f
  induction f with
  | zero =>
    intro x3 FI GR BR AN C b hm
    cases hm
  | succ f ih =>
    intro x3 FI GR BR AN C b hm hx1
    obtain ⟨⟨r, q⟩, hr, hm⟩ := lk_s hm
    rcases r with v | v
    · obtain ⟨c, hm, hb⟩ := hm
      rw [hb, oPl_assoc]
      refine x_mX1_keep_b109 n x2 x3 hr (fun v9 e => ?_) (fun v9 e => by cases e)
      cases e; exact ih v.1 v.2.1 v.2.2.1 v.2.2.2.1 v.2.2.2.2.1 v.2.2.2.2.2 (b.1, c) hm hx1
    · cases (show b = (v, q) from hm)
      refine x_mX1_keep_b109 n x2 x3 hr (fun v9 e => by cases e) (fun v9 e => ?_)
      · cases e; exact hx1
noncomputable def mX1_keep_b99 (n : Nat) (FI : OhI) (FR : OhQ) (GR : OhQ) (AI : OhI) (AR : OhQ) (BR : OhQ) (AN : OhN) (C : OhC) (x2 : Int32) : Option (((Int32 × OhI × OhQ × OhQ × OhN × OhC) ⊕ (OhI × OhQ × OhQ × OhN × OhC)) × (Nat × Nat)) :=
  (if (FI 0 0 35) ≤ x2 then
  some (.inr (FI, GR, BR, AN, C), (0, 0))
else
  (lpK (fun v => mX1_keep_b109 n v.2.1 FR v.2.2.1 AI AR v.2.2.2.1 v.2.2.2.2.1 v.2.2.2.2.2 x2 v.1) n ((0 : Int32), FI, GR, BR, AN, C)).bind fun b30 => oCost b30.2 <| (fun v30 => some (.inl (x2 + (1 : Int32), v30.1, v30.2.1, v30.2.2.1, v30.2.2.2.1, v30.2.2.2.2), (0, 0))) b30.1)
theorem x_mX1_keep_b99 {G : OhG} {FI AI : OhI} {FL AL : OhL} {FR GR AR BR : OhQ} {AN : OhN} {C : OhC} {k : Nat × Nat} {Φ : OhP} {Ψ : OhX} (n : Nat) (x2 : Int32) {r : ((Int32 × OhI × OhQ × OhQ × OhN × OhC) ⊕ (OhI × OhQ × OhQ × OhN × OhC)) × (Nat × Nat)} (hm : mX1_keep_b99 n FI FR GR AI AR BR AN C x2 = some r) (hk : ∀ v : Int32 × OhI × OhQ × OhQ × OhN × OhC, r.1 = .inl v → oX G 8 iX1_keep 99 [(0, vR (some (0, 0))), (2, vI v.1)] [] (v.2.1, FL, FR, v.2.2.1, AI, AL, AR, v.2.2.2.1, v.2.2.2.2.1, v.2.2.2.2.2) k Φ Ψ) (hx1 : ∀ v : OhI × OhQ × OhQ × OhN × OhC, r.1 = .inr v → oX G 8 iX1_keep 180 [(0, vR (some (0, 0)))] [] (v.1, FL, FR, v.2.1, AI, AL, AR, v.2.2.1, v.2.2.2.1, v.2.2.2.2) k Φ Ψ) : oX G 8 iX1_keep 99 [(0, vR (some (0, 0))), (2, vI x2)] [] (FI, FL, FR, GR, AI, AL, AR, BR, AN, C) (oPl r.2 k) Φ Ψ := by
  obtain ⟨r, q0⟩ := r
  unfold mX1_keep_b99 at hm
  refine oX_iload_n dX1_keep_99 rfl rfl ?_
  refine oX_aload_n dX1_keep_100 rfl rfl ?_
  refine oX_getI fX1_497 rfl oDs0 dX1_keep_101 ?_
  refine oX_icmp_ge (tgt := 180) dX1_keep_104 (by decide) (fun c17 => ?_) (fun c17 => ?_)
  · have hm := ifp c17 hm
    obtain ⟨hr, rfl⟩ := oEnd hm
    exact oX_sub [0] rfl (oX_z (hx1 (FI, GR, BR, AN, C) hr))
  · have hm := ifn c17 hm
    refine oX_iconst (v := (0 : Int32)) dX1_keep_107 (by decide) ?_
    refine oX_istore_n (ls' := [(3, vI (0 : Int32)), (0, vR (some (0, 0))), (2, vI x2)]) dX1_keep_108 rfl (by decide) rfl ?_
    obtain ⟨b30, g30, hm⟩ := bd_s hm
    refine oX_cost hm (fun qq30 hm => ?_)
    refine oX_sub [1, 2, 0] rfl (l_mX1_keep_b109 n x2 n (0 : Int32) FI GR BR AN C _ g30 ?_)
    generalize b30.1 = v30 at hm ⊢
    refine oX_iinc (v := x2 + (1 : Int32)) (ls' := [(2, vI (x2 + (1 : Int32))), (0, vR (some (0, 0)))]) dX1_keep_174 rfl rfl (by decide) rfl ?_
    refine oX_goto (tgt := 99) dX1_keep_177 (by decide) ?_
    obtain ⟨hr, rfl⟩ := oEnd hm
    exact oX_sub [1, 0] rfl (oX_z (hk (x2 + (1 : Int32), v30.1, v30.2.1, v30.2.2.1, v30.2.2.2.1, v30.2.2.2.2) hr))
theorem l_mX1_keep_b99 {G : OhG} {FL : OhL} {FR : OhQ} {AI : OhI} {AL : OhL} {AR : OhQ} {k : Nat × Nat} {Φ : OhP} {Ψ : OhX} (n : Nat) : ∀ (f : Nat) (x2 : Int32) (FI : OhI) (GR : OhQ) (BR : OhQ) (AN : OhN) (C : OhC) (b : ((OhI × OhQ × OhQ × OhN × OhC)) × (Nat × Nat)), lpK (fun v => mX1_keep_b99 n v.2.1 FR v.2.2.1 AI AR v.2.2.2.1 v.2.2.2.2.1 v.2.2.2.2.2 v.1) f (x2, FI, GR, BR, AN, C) = some b → (oX G 8 iX1_keep 180 [(0, vR (some (0, 0)))] [] (b.1.1, FL, FR, b.1.2.1, AI, AL, AR, b.1.2.2.1, b.1.2.2.2.1, b.1.2.2.2.2) k Φ Ψ) → oX G 8 iX1_keep 99 [(0, vR (some (0, 0))), (2, vI x2)] [] (FI, FL, FR, GR, AI, AL, AR, BR, AN, C) (oPl b.2 k) Φ Ψ := by
  intro f
  induction f with
  | zero =>
    intro x2 FI GR BR AN C b hm
    cases hm
  | succ f ih =>
    intro x2 FI GR BR AN C b hm hx1
    obtain ⟨⟨r, q⟩, hr, hm⟩ := lk_s hm
    rcases r with v | v
    · obtain ⟨c, hm, hb⟩ := hm
      rw [hb, oPl_assoc]
      refine x_mX1_keep_b99 n x2 hr (fun v9 e => ?_) (fun v9 e => by cases e)
      cases e; exact ih v.1 v.2.1 v.2.2.1 v.2.2.2.1 v.2.2.2.2.1 v.2.2.2.2.2 (b.1, c) hm hx1
    · cases (show b = (v, q) from hm)
      refine x_mX1_keep_b99 n x2 hr (fun v9 e => by cases e) (fun v9 e => ?_)
      · cases e; exact hx1
noncomputable def mX1_keep_b182 (n : Nat) (FI : OhI) (FR : OhQ) (GR : OhQ) (AI : OhI) (AR : OhQ) (BR : OhQ) (AN : OhN) (C : OhC) (x2 : Int32) : Option (((Int32 × OhI × OhQ × OhQ × OhN × OhC) ⊕ (OhI × OhQ × OhQ × OhN × OhC)) × (Nat × Nat)) :=
  (if (FI 0 0 35) ≤ x2 then
  some (.inr (FI, GR, BR, AN, C), (0, 0))
else
  gd (ohShH FR AR AN) <|
    gd (vp_in x2 6) <|
    (mJ2_add FI GR BR AN C (311, 0) (BR 329 0 x2.toNatClampNeg)).bind fun r35 =>
    oCost r35.2 <|
    some (.inl (x2 + (1 : Int32), r35.1.2.1, r35.1.2.2.1, r35.1.2.2.2.1, r35.1.2.2.2.2.1, r35.1.2.2.2.2.2), (0, 0)))
theorem x_mX1_keep_b182 {G : OhG} {FI AI : OhI} {FL AL : OhL} {FR GR AR BR : OhQ} {AN : OhN} {C : OhC} {k : Nat × Nat} {Φ : OhP} {Ψ : OhX} (n : Nat) (x2 : Int32) {r : ((Int32 × OhI × OhQ × OhQ × OhN × OhC) ⊕ (OhI × OhQ × OhQ × OhN × OhC)) × (Nat × Nat)} (hm : mX1_keep_b182 n FI FR GR AI AR BR AN C x2 = some r) (hk : ∀ v : Int32 × OhI × OhQ × OhQ × OhN × OhC, r.1 = .inl v → oX G 8 iX1_keep 182 [(0, vR (some (0, 0))), (2, vI v.1)] [] (v.2.1, FL, FR, v.2.2.1, AI, AL, AR, v.2.2.2.1, v.2.2.2.2.1, v.2.2.2.2.2) k Φ Ψ) (hx1 : ∀ v : OhI × OhQ × OhQ × OhN × OhC, r.1 = .inr v → oX G 8 iX1_keep 210 [(0, vR (some (0, 0)))] [] (v.1, FL, FR, v.2.1, AI, AL, AR, v.2.2.1, v.2.2.2.1, v.2.2.2.2) k Φ Ψ) : oX G 8 iX1_keep 182 [(0, vR (some (0, 0))), (2, vI x2)] [] (FI, FL, FR, GR, AI, AL, AR, BR, AN, C) (oPl r.2 k) Φ Ψ := by
  obtain ⟨r, q0⟩ := r
  unfold mX1_keep_b182 at hm
  refine oX_iload_n dX1_keep_182 rfl rfl ?_
  refine oX_aload_n dX1_keep_183 rfl rfl ?_
  refine oX_getI fX1_497 rfl oDs0 dX1_keep_184 ?_
  refine oX_icmp_ge (tgt := 210) dX1_keep_187 (by decide) (fun c32 => ?_) (fun c32 => ?_)
  · have hm := ifp c32 hm
    obtain ⟨hr, rfl⟩ := oEnd hm
    exact oX_sub [0] rfl (oX_z (hx1 (FI, GR, BR, AN, C) hr))
  · have hm := ifn c32 hm
    refine oX_aload_n dX1_keep_190 rfl rfl ?_
    obtain ⟨s33, hm⟩ := gd_s hm
    refine oX_getF fX1_37 rfl oDs0 dX1_keep_191 (ohF311 s33) ?_
    refine oX_aload_n dX1_keep_194 rfl rfl ?_
    refine oX_getF fX1_99 rfl oDs0 dX1_keep_195 (ohF329 s33) ?_
    refine oX_iload_n dX1_keep_198 rfl rfl ?_
    obtain ⟨g34, hm⟩ := gd_s hm
    refine oX_aaldC oDs329 (oIn (ohN329 s33) g34) dX1_keep_199 rfl ?_
    obtain ⟨r35, g35, hm⟩ := bd_s hm
    refine oX_cost hm (fun qq35 hm => ?_)
    refine oX_cVK (as := [vR (BR 329 0 x2.toNatClampNeg)]) dX1_keep_200 rfl oDs311 rfl (by decide) rfl ok_J2_add rfl rfl q496 q497 q498 q132 q499 (by decide) (Nat.le_of_ble_eq_true rfl) (t_J2_add (311, 0) rfl (BR 329 0 x2.toNatClampNeg) g35) (Nat.le_refl _) (Nat.le_refl _) ?_
    refine oX_pop dX1_keep_203 trivial ?_
    refine oX_iinc (v := x2 + (1 : Int32)) (ls' := [(2, vI (x2 + (1 : Int32))), (0, vR (some (0, 0)))]) dX1_keep_204 rfl rfl (by decide) rfl ?_
    refine oX_goto (tgt := 182) dX1_keep_207 (by decide) ?_
    obtain ⟨hr, rfl⟩ := oEnd hm
    exact oX_sub [1, 0] rfl (oX_z (hk (x2 + (1 : Int32), r35.1.2.1, r35.1.2.2.1, r35.1.2.2.2.1, r35.1.2.2.2.2.1, r35.1.2.2.2.2.2) hr))
theorem l_mX1_keep_b182 {G : OhG} {FL : OhL} {FR : OhQ} {AI : OhI} {AL : OhL} {AR : OhQ} {k : Nat × Nat} {Φ : OhP} {Ψ : OhX} (n : Nat) : ∀ (f : Nat) (x2 : Int32) (FI : OhI) (GR : OhQ) (BR : OhQ) (AN : OhN) (C : OhC) (b : ((OhI × OhQ × OhQ × OhN × OhC)) × (Nat × Nat)), lpK (fun v => mX1_keep_b182 n v.2.1 FR v.2.2.1 AI AR v.2.2.2.1 v.2.2.2.2.1 v.2.2.2.2.2 v.1) f (x2, FI, GR, BR, AN, C) = some b → (oX G 8 iX1_keep 210 [(0, vR (some (0, 0)))] [] (b.1.1, FL, FR, b.1.2.1, AI, AL, AR, b.1.2.2.1, b.1.2.2.2.1, b.1.2.2.2.2) k Φ Ψ) → oX G 8 iX1_keep 182 [(0, vR (some (0, 0))), (2, vI x2)] [] (FI, FL, FR, GR, AI, AL, AR, BR, AN, C) (oPl b.2 k) Φ Ψ := by
  intro f
  induction f with
  | zero =>
    intro x2 FI GR BR AN C b hm
    cases hm
  | succ f ih =>
    intro x2 FI GR BR AN C b hm hx1
    obtain ⟨⟨r, q⟩, hr, hm⟩ := lk_s hm
    rcases r with v | v
    · obtain ⟨c, hm, hb⟩ := hm
      rw [hb, oPl_assoc]
      refine x_mX1_keep_b182 n x2 hr (fun v9 e => ?_) (fun v9 e => by cases e)
      cases e; exact ih v.1 v.2.1 v.2.2.1 v.2.2.2.1 v.2.2.2.2.1 v.2.2.2.2.2 (b.1, c) hm hx1
    · cases (show b = (v, q) from hm)
      refine x_mX1_keep_b182 n x2 hr (fun v9 e => by cases e) (fun v9 e => ?_)
      · cases e; exact hx1
noncomputable def mX1_keep (n : Nat) (FI : OhI) (FR : OhQ) (GR : OhQ) (AI : OhI) (AR : OhQ) (BR : OhQ) (AN : OhN) (C : OhC) : Option ((Int32 × OhI × OhQ × OhI × OhQ × OhN × OhC) × (Nat × Nat)) :=
  (if (FI 0 0 35) = 0 then
  some (((-1 : Int32), FI, GR, AI, BR, AN, C), (0, 0))
else
  (if (FI 0 0 36) = (FI 0 0 6) then
    gd (ohShH FR AR AN) <|
      (mX1_layOut n FI FR GR AI AR BR AN (FI 0 0 3)).bind fun r4 =>
      (lpK (fun v => mX1_keep_b32 n r4.1 FR GR r4.2.1 AR r4.2.2 AN C v.1 v.2) n ((0 : Int32), (0 : Int32))).bind fun b14 => oCost b14.2 <| (fun v14 => (mJ2_size r4.1 (312, 0)).bind fun r15 =>
      (if (r15 + v14) ≤ (400 : Int32) then
      (lpK (fun v => mX1_keep_b99 n v.2.1 FR v.2.2.1 r4.2.1 AR v.2.2.2.1 v.2.2.2.2.1 v.2.2.2.2.2 v.1) n ((0 : Int32), r4.1, GR, r4.2.2, AN, C)).bind fun b31 => oCost b31.2 <| (fun v31 => (lpK (fun v => mX1_keep_b182 n v.2.1 FR v.2.2.1 r4.2.1 AR v.2.2.2.1 v.2.2.2.2.1 v.2.2.2.2.2 v.1) n ((0 : Int32), v31.1, v31.2.1, v31.2.2.1, v31.2.2.2.1, v31.2.2.2.2)).bind fun b36 => oCost b36.2 <| (fun v36 => oLet (sA v36.1 0 0 (uA (v36.1 0 0) 6 ((v36.1 0 0 6) + (1 : Int32)))) fun FI37 =>
        gd (ohShH FR AR v36.2.2.2.1) <|
        (mJ2_size FI37 (311, 0)).bind fun r39 =>
        some ((r39, FI37, v36.2.1, r4.2.1, v36.2.2.1, v36.2.2.2.1, v36.2.2.2.2), (0, 0))) b36.1) b31.1
    else
      some (((-1 : Int32), r4.1, GR, r4.2.1, r4.2.2, AN, C), (0, 0)))) b14.1
  else
    some (((-1 : Int32), FI, GR, AI, BR, AN, C), (0, 0))))
theorem x_mX1_keep {G : OhG} {FI AI : OhI} {FL AL : OhL} {FR GR AR BR : OhQ} {AN : OhN} {C : OhC} {k : Nat × Nat} {Φ : OhP} {Ψ : OhX} (n : Nat) {r : (Int32 × OhI × OhQ × OhI × OhQ × OhN × OhC) × (Nat × Nat)} (hm : mX1_keep n FI FR GR AI AR BR AN C = some r) (hK : Φ (some (vI r.1.1)) (r.1.2.1, FL, FR, r.1.2.2.1, r.1.2.2.2.1, AL, AR, r.1.2.2.2.2.1, r.1.2.2.2.2.2.1, r.1.2.2.2.2.2.2)) : oX G 8 iX1_keep 0 [(0, vR (some (0, 0)))] [] (FI, FL, FR, GR, AI, AL, AR, BR, AN, C) (oPl r.2 k) Φ Ψ := by
  obtain ⟨r, q0⟩ := r
  unfold mX1_keep at hm
  refine oX_aload_n dX1_keep_0 rfl rfl ?_
  refine oX_getI fX1_497 rfl oDs0 dX1_keep_1 ?_
  refine oX_if_eq (tgt := 18) dX1_keep_4 (by decide) (fun c1 => ?_) (fun c1 => ?_)
  · have hm := ifp c1 hm
    refine oX_iconst (v := (-1 : Int32)) dX1_keep_18 (by decide) ?_
    obtain ⟨rfl, rfl⟩ := oEnd hm
    exact oX_iret dX1_keep_19 rfl rfl hK
  · have hm := ifn c1 hm
    refine oX_aload_n dX1_keep_7 rfl rfl ?_
    refine oX_getI fX1_503 rfl oDs0 dX1_keep_8 ?_
    refine oX_aload_n dX1_keep_11 rfl rfl ?_
    refine oX_getI fX1_119 rfl oDs0 dX1_keep_12 ?_
    refine oX_icmp_eq (tgt := 20) dX1_keep_15 (by decide) (fun c2 => ?_) (fun c2 => ?_)
    · have hm := ifp c2 hm
      refine oX_aload_n dX1_keep_20 rfl rfl ?_
      refine oX_aload_n dX1_keep_21 rfl rfl ?_
      refine oX_getI fX1_116 rfl oDs0 dX1_keep_22 ?_
      obtain ⟨s3, hm⟩ := gd_s hm
      obtain ⟨r4, g4, hm⟩ := bd_s hm
      refine oX_cV_ (as := [vI (FI 0 0 3)]) dX1_keep_25 rfl oDs0 rfl (by decide) rfl ok_X1_layOut rfl rfl q1418 q1420 qs25 q129 q1421 (by decide) (Nat.le_of_ble_eq_true rfl) (t_X1_layOut s3 n (FI 0 0 3) g4) ?_
      refine oX_iconst (v := (0 : Int32)) dX1_keep_28 (by decide) ?_
      refine oX_istore_n (ls' := [(1, vI (0 : Int32)), (0, vR (some (0, 0)))]) dX1_keep_29 rfl (by decide) rfl ?_
      refine oX_iconst (v := (0 : Int32)) dX1_keep_30 (by decide) ?_
      refine oX_istore_n (ls' := [(2, vI (0 : Int32)), (1, vI (0 : Int32)), (0, vR (some (0, 0)))]) dX1_keep_31 rfl (by decide) rfl ?_
      obtain ⟨b14, g14, hm⟩ := bd_s hm
      refine oX_cost hm (fun qq14 hm => ?_)
      refine oX_sub [2, 1, 0] rfl (l_mX1_keep_b32 n n (0 : Int32) (0 : Int32) _ g14 ?_)
      generalize b14.1 = v14 at hm ⊢
      refine oX_aload_n dX1_keep_80 rfl rfl ?_
      refine oX_getF fX1_40 rfl oDs0 dX1_keep_81 (ohF312 s3) ?_
      obtain ⟨r15, g15, hm⟩ := bd_s hm
      refine oX_cV (as := []) dX1_keep_84 rfl oDs312 rfl (by decide) rfl ok_J2_size rfl rfl q430 q431 q432 q132 q433 (by decide) (Nat.le_of_ble_eq_true rfl) (t_J2_size (312, 0) rfl g15) ?_
      refine oX_iload_n dX1_keep_87 rfl rfl ?_
      refine oX_iadd dX1_keep_88 ?_
      refine oX_sipush (v := (400 : Int32)) dX1_keep_89 (by decide) ?_
      refine oX_icmp_le (tgt := 97) dX1_keep_92 (by decide) (fun c16 => ?_) (fun c16 => ?_)
      · have hm := ifp c16 hm
        refine oX_iconst (v := (0 : Int32)) dX1_keep_97 (by decide) ?_
        refine oX_istore_n (ls' := [(2, vI (0 : Int32)), (0, vR (some (0, 0))), (1, vI v14)]) dX1_keep_98 rfl (by decide) rfl ?_
        obtain ⟨b31, g31, hm⟩ := bd_s hm
        refine oX_cost hm (fun qq31 hm => ?_)
        refine oX_sub [1, 0] rfl (l_mX1_keep_b99 n n (0 : Int32) r4.1 GR r4.2.2 AN C _ g31 ?_)
        generalize b31.1 = v31 at hm ⊢
        refine oX_iconst (v := (0 : Int32)) dX1_keep_180 (by decide) ?_
        refine oX_istore_n (ls' := [(2, vI (0 : Int32)), (0, vR (some (0, 0)))]) dX1_keep_181 rfl (by decide) rfl ?_
        obtain ⟨b36, g36, hm⟩ := bd_s hm
        refine oX_cost hm (fun qq36 hm => ?_)
        refine oX_sub [1, 0] rfl (l_mX1_keep_b182 n n (0 : Int32) v31.1 v31.2.1 v31.2.2.1 v31.2.2.2.1 v31.2.2.2.2 _ g36 ?_)
        generalize b36.1 = v36 at hm ⊢
        refine oX_aload_n dX1_keep_210 rfl rfl ?_
        refine oX_dup dX1_keep_211 trivial ?_
        refine oX_getI fX1_119 rfl oDs0 dX1_keep_212 ?_
        refine oX_iconst (v := (1 : Int32)) dX1_keep_215 (by decide) ?_
        refine oX_iadd dX1_keep_216 ?_
        obtain ⟨FI37, hFI37, hm⟩ := oLs hm
        refine oX_putI fX1_119 rfl (fun h9 => by cases h9) oDs0 dX1_keep_217 ⟨rfl, rfl⟩ hFI37 ?_
        refine oX_aload_n dX1_keep_220 rfl rfl ?_
        obtain ⟨s38, hm⟩ := gd_s hm
        refine oX_getF fX1_37 rfl oDs0 dX1_keep_221 (ohF311 s38) ?_
        obtain ⟨r39, g39, hm⟩ := bd_s hm
        refine oX_cV (as := []) dX1_keep_224 rfl oDs311 rfl (by decide) rfl ok_J2_size rfl rfl q430 q431 q432 q132 q433 (by decide) (Nat.le_of_ble_eq_true rfl) (t_J2_size (311, 0) rfl g39) ?_
        obtain ⟨rfl, rfl⟩ := oEnd hm
        exact oX_iret dX1_keep_227 rfl rfl hK
      · have hm := ifn c16 hm
        refine oX_iconst (v := (-1 : Int32)) dX1_keep_95 (by decide) ?_
        obtain ⟨rfl, rfl⟩ := oEnd hm
        exact oX_iret dX1_keep_96 rfl rfl hK
    · have hm := ifn c2 hm
      refine oX_iconst (v := (-1 : Int32)) dX1_keep_18 (by decide) ?_
      obtain ⟨rfl, rfl⟩ := oEnd hm
      exact oX_iret dX1_keep_19 rfl rfl hK
theorem t_X1_keep {G : OhG} {FI AI : OhI} {FL AL : OhL} {FR GR AR BR : OhQ} {AN : OhN} {C : OhC} (n : Nat) {o : (Int32 × OhI × OhQ × OhI × OhQ × OhN × OhC) × (Nat × Nat)} (hm : mX1_keep n FI FR GR AI AR BR AN C = some o) : oT G 8 iX1_keep [vR (some (0, 0))] (FI, FL, FR, GR, AI, AL, AR, BR, AN, C) o.2 (fun v h => v = (some (vI o.1.1)) ∧ h = (o.1.2.1, FL, FR, o.1.2.2.1, o.1.2.2.2.1, AL, AR, o.1.2.2.2.2.1, o.1.2.2.2.2.2.1, o.1.2.2.2.2.2.2)) ohNo :=
  oT_of (by decide) rfl (Nat.le_of_ble_eq_true rfl) (x_mX1_keep (k := (0, 0)) n hm ⟨rfl, rfl⟩)
set_option maxHeartbeats 4000000 in
set_option maxRecDepth 100000 in
noncomputable def mX1_init (n : Nat) (FI : OhI) (FR : OhQ) (GR : OhQ) (AI : OhI) (AR : OhQ) (BR : OhQ) (AN : OhN) (C : OhC) : Option ((OhI × OhQ × OhQ × OhI × OhQ × OhQ × OhN × OhC) × (Nat × Nat)) :=
  oLet (sA AI 300 (C 300) (fun _ => 0)) fun AI1 =>
  oLet (sA AN 300 (C 300) (340 : Int32).toNatClampNeg) fun AN1 =>
  oLet (uA C 300 (C 300 + 1)) fun C1 =>
  oCost (1, (340 : Int32).toNatClampNeg) <|
  oLet (sA FR 0 0 (uA (FR 0 0) 0 (some (300, C 300)))) fun FR2 =>
  oLet (sA FI 0 0 (uA (FI 0 0) 4 (24 : Int32))) fun FI3 =>
  oLet (sA FI3 0 0 (uA (FI3 0 0) 5 (168 : Int32))) fun FI4 =>
  oLet (sA AI1 307 (C1 307) (fun _ => 0)) fun AI5 =>
  oLet (sA AN1 307 (C1 307) (4 : Int32).toNatClampNeg) fun AN5 =>
  oLet (uA C1 307 (C1 307 + 1)) fun C5 =>
  oCost (1, (4 : Int32).toNatClampNeg) <|
  oLet (sA FR2 0 0 (uA (FR2 0 0) 7 (some (307, C1 307)))) fun FR6 =>
  oLet (sA AI5 308 (C5 308) (fun _ => 0)) fun AI7 =>
  oLet (sA AN5 308 (C5 308) (4 : Int32).toNatClampNeg) fun AN7 =>
  oLet (uA C5 308 (C5 308 + 1)) fun C7 =>
  oCost (1, (4 : Int32).toNatClampNeg) <|
  oLet (sA FR6 0 0 (uA (FR6 0 0) 8 (some (308, C5 308)))) fun FR8 =>
  oLet (sA FI4 309 (C7 309) (fun _ => 0)) fun FI9 =>
  oLet (sA GR 309 (C7 309) (fun _ => none)) fun GR9 =>
  oLet (uA C7 309 (C7 309 + 1)) fun C9 =>
  oCost (1, 3) <|
  (mJ2_init FI9 GR9 C9 (309, C7 309)).bind fun r10 =>
  oLet (sA FR8 0 0 (uA (FR8 0 0) 9 (some (309, C7 309)))) fun FR11 =>
  oLet (sA r10.1 310 (C9 310) (fun _ => 0)) fun FI12 =>
  oLet (sA r10.2 310 (C9 310) (fun _ => none)) fun GR12 =>
  oLet (uA C9 310 (C9 310 + 1)) fun C12 =>
  oCost (1, 3) <|
  (mJ2_init FI12 GR12 C12 (310, C9 310)).bind fun r13 =>
  oLet (sA FR11 0 0 (uA (FR11 0 0) 10 (some (310, C9 310)))) fun FR14 =>
  oLet (sA r13.1 311 (C12 311) (fun _ => 0)) fun FI15 =>
  oLet (sA r13.2 311 (C12 311) (fun _ => none)) fun GR15 =>
  oLet (uA C12 311 (C12 311 + 1)) fun C15 =>
  oCost (1, 3) <|
  (mJ2_init FI15 GR15 C15 (311, C12 311)).bind fun r16 =>
  oLet (sA FR14 0 0 (uA (FR14 0 0) 11 (some (311, C12 311)))) fun FR17 =>
  oLet (sA r16.1 312 (C15 312) (fun _ => 0)) fun FI18 =>
  oLet (sA r16.2 312 (C15 312) (fun _ => none)) fun GR18 =>
  oLet (uA C15 312 (C15 312 + 1)) fun C18 =>
  oCost (1, 3) <|
  (mJ2_init FI18 GR18 C18 (312, C15 312)).bind fun r19 =>
  oLet (sA FR17 0 0 (uA (FR17 0 0) 12 (some (312, C15 312)))) fun FR20 =>
  oLet (sA r19.1 313 (C18 313) (fun _ => 0)) fun FI21 =>
  oLet (sA r19.2 313 (C18 313) (fun _ => none)) fun GR21 =>
  oLet (uA C18 313 (C18 313 + 1)) fun C21 =>
  oCost (1, 3) <|
  (mJ2_init FI21 GR21 C21 (313, C18 313)).bind fun r22 =>
  oLet (sA FR20 0 0 (uA (FR20 0 0) 13 (some (313, C18 313)))) fun FR23 =>
  oLet (sA r22.1 314 (C21 314) (fun _ => 0)) fun FI24 =>
  oLet (sA r22.2 314 (C21 314) (fun _ => none)) fun GR24 =>
  oLet (uA C21 314 (C21 314 + 1)) fun C24 =>
  oCost (1, 3) <|
  (mJ2_init FI24 GR24 C24 (314, C21 314)).bind fun r25 =>
  oLet (sA FR23 0 0 (uA (FR23 0 0) 14 (some (314, C21 314)))) fun FR26 =>
  oLet (sA r25.1 315 (C24 315) (fun _ => 0)) fun FI27 =>
  oLet (sA FR26 315 (C24 315) (fun _ => none)) fun FR27 =>
  oLet (uA C24 315 (C24 315 + 1)) fun C27 =>
  oCost (1, 4) <|
  gd ((315, C24 315) = (315, 0)) <|
  (mX2_init n FI27 FR27 AI7 AR BR AN7 C27).bind fun r29 =>
  oCost r29.2 <|
  oLet (sA r29.1.2.1 0 0 (uA (r29.1.2.1 0 0) 15 (some (315, 0)))) fun FR30 =>
  oLet (sA BR 316 (r29.1.2.2.2.2.2 316) (fun _ => none)) fun BR31 =>
  oLet (sA r29.1.2.2.2.2.1 316 (r29.1.2.2.2.2.2 316) (66 : Int32).toNatClampNeg) fun AN31 =>
  oLet (uA r29.1.2.2.2.2.2 316 (r29.1.2.2.2.2.2 316 + 1)) fun C31 =>
  oCost (1, (66 : Int32).toNatClampNeg) <|
  oLet (sA FR30 0 0 (uA (FR30 0 0) 16 (some (316, r29.1.2.2.2.2.2 316)))) fun FR32 =>
  oLet (sA r29.1.2.2.2.1 319 (C31 319) (fun j => if j < (66 : Int32).toNatClampNeg then some (419, C31 419 + j) else none)) fun AR33 =>
  oLet (rA r29.1.2.2.1 419 (C31 419) (66 : Int32).toNatClampNeg (fun _ => 0)) fun AI33 =>
  oLet (rA (sA AN31 319 (C31 319) (66 : Int32).toNatClampNeg) 419 (C31 419) (66 : Int32).toNatClampNeg (8 : Int32).toNatClampNeg) fun AN33 =>
  oLet (uA (uA C31 319 (C31 319 + 1)) 419 (C31 419 + (66 : Int32).toNatClampNeg)) fun C33 =>
  oCost (1 + (66 : Int32).toNatClampNeg, (66 : Int32).toNatClampNeg + (66 : Int32).toNatClampNeg * (8 : Int32).toNatClampNeg) <|
  oLet (sA FR32 0 0 (uA (FR32 0 0) 19 (some (319, C31 319)))) fun FR34 =>
  oLet (sA AR33 320 (C33 320) (fun j => if j < (66 : Int32).toNatClampNeg then some (420, C33 420 + j) else none)) fun AR35 =>
  oLet (rA AI33 420 (C33 420) (66 : Int32).toNatClampNeg (fun _ => 0)) fun AI35 =>
  oLet (rA (sA AN33 320 (C33 320) (66 : Int32).toNatClampNeg) 420 (C33 420) (66 : Int32).toNatClampNeg (8 : Int32).toNatClampNeg) fun AN35 =>
  oLet (uA (uA C33 320 (C33 320 + 1)) 420 (C33 420 + (66 : Int32).toNatClampNeg)) fun C35 =>
  oCost (1 + (66 : Int32).toNatClampNeg, (66 : Int32).toNatClampNeg + (66 : Int32).toNatClampNeg * (8 : Int32).toNatClampNeg) <|
  oLet (sA FR34 0 0 (uA (FR34 0 0) 20 (some (320, C33 320)))) fun FR36 =>
  oLet (sA AR35 321 (C35 321) (fun j => if j < (66 : Int32).toNatClampNeg then some (421, C35 421 + j) else none)) fun AR37 =>
  oLet (rA AI35 421 (C35 421) (66 : Int32).toNatClampNeg (fun _ => 0)) fun AI37 =>
  oLet (rA (sA AN35 321 (C35 321) (66 : Int32).toNatClampNeg) 421 (C35 421) (66 : Int32).toNatClampNeg (8 : Int32).toNatClampNeg) fun AN37 =>
  oLet (uA (uA C35 321 (C35 321 + 1)) 421 (C35 421 + (66 : Int32).toNatClampNeg)) fun C37 =>
  oCost (1 + (66 : Int32).toNatClampNeg, (66 : Int32).toNatClampNeg + (66 : Int32).toNatClampNeg * (8 : Int32).toNatClampNeg) <|
  oLet (sA FR36 0 0 (uA (FR36 0 0) 21 (some (321, C35 321)))) fun FR38 =>
  oLet (sA AR37 322 (C37 322) (fun j => if j < (66 : Int32).toNatClampNeg then some (422, C37 422 + j) else none)) fun AR39 =>
  oLet (rA AI37 422 (C37 422) (66 : Int32).toNatClampNeg (fun _ => 0)) fun AI39 =>
  oLet (rA (sA AN37 322 (C37 322) (66 : Int32).toNatClampNeg) 422 (C37 422) (66 : Int32).toNatClampNeg (9 : Int32).toNatClampNeg) fun AN39 =>
  oLet (uA (uA C37 322 (C37 322 + 1)) 422 (C37 422 + (66 : Int32).toNatClampNeg)) fun C39 =>
  oCost (1 + (66 : Int32).toNatClampNeg, (66 : Int32).toNatClampNeg + (66 : Int32).toNatClampNeg * (9 : Int32).toNatClampNeg) <|
  oLet (sA FR38 0 0 (uA (FR38 0 0) 22 (some (322, C37 322)))) fun FR40 =>
  oLet (sA AI39 323 (C39 323) (fun _ => 0)) fun AI41 =>
  oLet (sA AN39 323 (C39 323) (120 : Int32).toNatClampNeg) fun AN41 =>
  oLet (uA C39 323 (C39 323 + 1)) fun C41 =>
  oCost (1, (120 : Int32).toNatClampNeg) <|
  oLet (sA FR40 0 0 (uA (FR40 0 0) 23 (some (323, C39 323)))) fun FR42 =>
  oLet (sA AI41 324 (C41 324) (fun _ => 0)) fun AI43 =>
  oLet (sA AN41 324 (C41 324) (120 : Int32).toNatClampNeg) fun AN43 =>
  oLet (uA C41 324 (C41 324 + 1)) fun C43 =>
  oCost (1, (120 : Int32).toNatClampNeg) <|
  oLet (sA FR42 0 0 (uA (FR42 0 0) 24 (some (324, C41 324)))) fun FR44 =>
  oLet (sA AI43 325 (C43 325) (fun _ => 0)) fun AI45 =>
  oLet (sA AN43 325 (C43 325) (720 : Int32).toNatClampNeg) fun AN45 =>
  oLet (uA C43 325 (C43 325 + 1)) fun C45 =>
  oCost (1, (720 : Int32).toNatClampNeg) <|
  oLet (sA FR44 0 0 (uA (FR44 0 0) 25 (some (325, C43 325)))) fun FR46 =>
  oLet (sA AI45 326 (C45 326) (fun _ => 0)) fun AI47 =>
  oLet (sA AN45 326 (C45 326) (0 : Int32).toNatClampNeg) fun AN47 =>
  oLet (uA C45 326 (C45 326 + 1)) fun C47 =>
  oCost (1, (0 : Int32).toNatClampNeg) <|
  oLet (sA r25.2 0 0 (uA (r25.2 0 0) 26 (some (326, C45 326)))) fun GR48 =>
  oLet (sA r29.1.1 327 (C47 327) (fun _ => 0)) fun FI49 =>
  oLet (uA C47 327 (C47 327 + 1)) fun C49 =>
  oCost (1, 7) <|
  gd ((327, C47 327) = (327, 0)) <|
  (mX3_init).bind fun r51 =>
  oLet (sA FR46 0 0 (uA (FR46 0 0) 27 (some (327, 0)))) fun FR52 =>
  oLet (sA AR39 328 (C49 328) (fun j => if j < (66 : Int32).toNatClampNeg then some (428, C49 428 + j) else none)) fun AR53 =>
  oLet (rA AI47 428 (C49 428) (66 : Int32).toNatClampNeg (fun _ => 0)) fun AI53 =>
  oLet (rA (sA AN47 328 (C49 328) (66 : Int32).toNatClampNeg) 428 (C49 428) (66 : Int32).toNatClampNeg (9 : Int32).toNatClampNeg) fun AN53 =>
  oLet (uA (uA C49 328 (C49 328 + 1)) 428 (C49 428 + (66 : Int32).toNatClampNeg)) fun C53 =>
  oCost (1 + (66 : Int32).toNatClampNeg, (66 : Int32).toNatClampNeg + (66 : Int32).toNatClampNeg * (9 : Int32).toNatClampNeg) <|
  oLet (sA FR52 0 0 (uA (FR52 0 0) 28 (some (328, C49 328)))) fun FR54 =>
  oLet (sA BR31 329 (C53 329) (fun _ => none)) fun BR55 =>
  oLet (sA AN53 329 (C53 329) (6 : Int32).toNatClampNeg) fun AN55 =>
  oLet (uA C53 329 (C53 329 + 1)) fun C55 =>
  oCost (1, (6 : Int32).toNatClampNeg) <|
  oLet (sA FR54 0 0 (uA (FR54 0 0) 29 (some (329, C53 329)))) fun FR56 =>
  oLet (sA AI53 330 (C55 330) (fun _ => 0)) fun AI57 =>
  oLet (sA AN55 330 (C55 330) (6 : Int32).toNatClampNeg) fun AN57 =>
  oLet (uA C55 330 (C55 330 + 1)) fun C57 =>
  oCost (1, (6 : Int32).toNatClampNeg) <|
  oLet (sA FR56 0 0 (uA (FR56 0 0) 30 (some (330, C55 330)))) fun FR58 =>
  some ((FI49, FR58, GR48, AI57, AR53, BR55, AN57, C57), (0, 0))
set_option maxHeartbeats 4000000 in
set_option maxRecDepth 100000 in
theorem x_mX1_init {G : OhG} {FI AI : OhI} {FL AL : OhL} {FR GR AR BR : OhQ} {AN : OhN} {C : OhC} {k : Nat × Nat} {Φ : OhP} {Ψ : OhX} (n : Nat) {r : (OhI × OhQ × OhQ × OhI × OhQ × OhQ × OhN × OhC) × (Nat × Nat)} (hm : mX1_init n FI FR GR AI AR BR AN C = some r) (hK : Φ none (r.1.1, FL, r.1.2.1, r.1.2.2.1, r.1.2.2.2.1, AL, r.1.2.2.2.2.1, r.1.2.2.2.2.2.1, r.1.2.2.2.2.2.2.1, r.1.2.2.2.2.2.2.2)) : oX G 5 iX1_init 0 [(0, vR (some (0, 0)))] [] (FI, FL, FR, GR, AI, AL, AR, BR, AN, C) (oPl r.2 k) Φ Ψ := by
  obtain ⟨r, q0⟩ := r
  unfold mX1_init at hm
  refine oX_aload_n dX1_init_0 rfl rfl ?_
  refine oX_objInit (a := (0, 0)) rfl q175 q176 q177 dX1_init_1 (by decide) (Nat.le_of_ble_eq_true rfl) ?_
  refine oX_aload_n dX1_init_4 rfl rfl ?_
  refine oX_sipush (v := (340 : Int32)) dX1_init_5 (by decide) ?_
  obtain ⟨AI1, hAI1, hm⟩ := oLs hm
  obtain ⟨AN1, hAN1, hm⟩ := oLs hm
  obtain ⟨C1, hC1, hm⟩ := oLs hm
  refine oX_cost hm (fun qq1 hm => ?_)
  refine oX_newa2 (k := oPl qq1 k) 300 rfl q204 dX1_init_8 (by decide) (by decide) hAI1 hAN1 hC1 ?_
  obtain ⟨FR2, hFR2, hm⟩ := oLs hm
  refine oX_putF fX1_9 rfl (fun _ => rfl) oDs0 dX1_init_10 (by first | exact Or.inl ⟨_, rfl⟩ | exact Or.inr ⟨_, rfl⟩) hFR2 ?_
  refine oX_aload_n dX1_init_13 rfl rfl ?_
  refine oX_bipush (v := (24 : Int32)) dX1_init_14 (by decide) ?_
  obtain ⟨FI3, hFI3, hm⟩ := oLs hm
  refine oX_putI fX1_13 rfl (fun _ => rfl) oDs0 dX1_init_16 ⟨rfl, rfl⟩ hFI3 ?_
  refine oX_aload_n dX1_init_19 rfl rfl ?_
  refine oX_sipush (v := (168 : Int32)) dX1_init_20 (by decide) ?_
  obtain ⟨FI4, hFI4, hm⟩ := oLs hm
  refine oX_putI fX1_17 rfl (fun _ => rfl) oDs0 dX1_init_23 ⟨rfl, rfl⟩ hFI4 ?_
  refine oX_aload_n dX1_init_26 rfl rfl ?_
  refine oX_iconst (v := (4 : Int32)) dX1_init_27 (by decide) ?_
  obtain ⟨AI5, hAI5, hm⟩ := oLs hm
  obtain ⟨AN5, hAN5, hm⟩ := oLs hm
  obtain ⟨C5, hC5, hm⟩ := oLs hm
  refine oX_cost hm (fun qq5 hm => ?_)
  refine oX_newa0 (k := oPl qq5 k) 307 rfl q205 dX1_init_28 (by decide) (by decide) hAI5 hAN5 hC5 ?_
  obtain ⟨FR6, hFR6, hm⟩ := oLs hm
  refine oX_putF fX1_20 rfl (fun _ => rfl) oDs0 dX1_init_30 (by first | exact Or.inl ⟨_, rfl⟩ | exact Or.inr ⟨_, rfl⟩) hFR6 ?_
  refine oX_aload_n dX1_init_33 rfl rfl ?_
  refine oX_iconst (v := (4 : Int32)) dX1_init_34 (by decide) ?_
  obtain ⟨AI7, hAI7, hm⟩ := oLs hm
  obtain ⟨AN7, hAN7, hm⟩ := oLs hm
  obtain ⟨C7, hC7, hm⟩ := oLs hm
  refine oX_cost hm (fun qq7 hm => ?_)
  refine oX_newa0 (k := oPl qq7 k) 308 rfl q205 dX1_init_35 (by decide) (by decide) hAI7 hAN7 hC7 ?_
  obtain ⟨FR8, hFR8, hm⟩ := oLs hm
  refine oX_putF fX1_24 rfl (fun _ => rfl) oDs0 dX1_init_37 (by first | exact Or.inl ⟨_, rfl⟩ | exact Or.inr ⟨_, rfl⟩) hFR8 ?_
  refine oX_aload_n dX1_init_40 rfl rfl ?_
  obtain ⟨FI9, hFI9, hm⟩ := oLs hm
  obtain ⟨GR9, hGR9, hm⟩ := oLs hm
  obtain ⟨C9, hC9, hm⟩ := oLs hm
  refine oX_cost hm (fun qq9 hm => ?_)
  refine oX_newIG (s9 := 309) (k := oPl qq9 k) nX1_27 rfl (by decide) dX1_init_41 hFI9 hGR9 hC9 ?_
  refine oX_dup dX1_init_44 trivial ?_
  obtain ⟨r10, g10, hm⟩ := bd_s hm
  refine oX_cI (as := []) dX1_init_45 rfl ok_J2_init rfl rfl rfl q180 q181 q132 q182 (by decide) (Nat.le_of_ble_eq_true rfl) (t_J2_init (309, C7 309) rfl g10) ?_
  obtain ⟨FR11, hFR11, hm⟩ := oLs hm
  refine oX_putF fX1_30 rfl (fun _ => rfl) oDs0 dX1_init_48 (by first | exact Or.inl ⟨_, rfl⟩ | exact Or.inr ⟨_, rfl⟩) hFR11 ?_
  refine oX_aload_n dX1_init_51 rfl rfl ?_
  obtain ⟨FI12, hFI12, hm⟩ := oLs hm
  obtain ⟨GR12, hGR12, hm⟩ := oLs hm
  obtain ⟨C12, hC12, hm⟩ := oLs hm
  refine oX_cost hm (fun qq12 hm => ?_)
  refine oX_newIG (s9 := 310) (k := oPl qq12 k) nX1_27 rfl (by decide) dX1_init_52 hFI12 hGR12 hC12 ?_
  refine oX_dup dX1_init_55 trivial ?_
  obtain ⟨r13, g13, hm⟩ := bd_s hm
  refine oX_cI (as := []) dX1_init_56 rfl ok_J2_init rfl rfl rfl q180 q181 q132 q182 (by decide) (Nat.le_of_ble_eq_true rfl) (t_J2_init (310, C9 310) rfl g13) ?_
  obtain ⟨FR14, hFR14, hm⟩ := oLs hm
  refine oX_putF fX1_34 rfl (fun _ => rfl) oDs0 dX1_init_59 (by first | exact Or.inl ⟨_, rfl⟩ | exact Or.inr ⟨_, rfl⟩) hFR14 ?_
  refine oX_aload_n dX1_init_62 rfl rfl ?_
  obtain ⟨FI15, hFI15, hm⟩ := oLs hm
  obtain ⟨GR15, hGR15, hm⟩ := oLs hm
  obtain ⟨C15, hC15, hm⟩ := oLs hm
  refine oX_cost hm (fun qq15 hm => ?_)
  refine oX_newIG (s9 := 311) (k := oPl qq15 k) nX1_27 rfl (by decide) dX1_init_63 hFI15 hGR15 hC15 ?_
  refine oX_dup dX1_init_66 trivial ?_
  obtain ⟨r16, g16, hm⟩ := bd_s hm
  refine oX_cI (as := []) dX1_init_67 rfl ok_J2_init rfl rfl rfl q180 q181 q132 q182 (by decide) (Nat.le_of_ble_eq_true rfl) (t_J2_init (311, C12 311) rfl g16) ?_
  obtain ⟨FR17, hFR17, hm⟩ := oLs hm
  refine oX_putF fX1_37 rfl (fun _ => rfl) oDs0 dX1_init_70 (by first | exact Or.inl ⟨_, rfl⟩ | exact Or.inr ⟨_, rfl⟩) hFR17 ?_
  refine oX_aload_n dX1_init_73 rfl rfl ?_
  obtain ⟨FI18, hFI18, hm⟩ := oLs hm
  obtain ⟨GR18, hGR18, hm⟩ := oLs hm
  obtain ⟨C18, hC18, hm⟩ := oLs hm
  refine oX_cost hm (fun qq18 hm => ?_)
  refine oX_newIG (s9 := 312) (k := oPl qq18 k) nX1_27 rfl (by decide) dX1_init_74 hFI18 hGR18 hC18 ?_
  refine oX_dup dX1_init_77 trivial ?_
  obtain ⟨r19, g19, hm⟩ := bd_s hm
  refine oX_cI (as := []) dX1_init_78 rfl ok_J2_init rfl rfl rfl q180 q181 q132 q182 (by decide) (Nat.le_of_ble_eq_true rfl) (t_J2_init (312, C15 312) rfl g19) ?_
  obtain ⟨FR20, hFR20, hm⟩ := oLs hm
  refine oX_putF fX1_40 rfl (fun _ => rfl) oDs0 dX1_init_81 (by first | exact Or.inl ⟨_, rfl⟩ | exact Or.inr ⟨_, rfl⟩) hFR20 ?_
  refine oX_aload_n dX1_init_84 rfl rfl ?_
  obtain ⟨FI21, hFI21, hm⟩ := oLs hm
  obtain ⟨GR21, hGR21, hm⟩ := oLs hm
  obtain ⟨C21, hC21, hm⟩ := oLs hm
  refine oX_cost hm (fun qq21 hm => ?_)
  refine oX_newIG (s9 := 313) (k := oPl qq21 k) nX1_27 rfl (by decide) dX1_init_85 hFI21 hGR21 hC21 ?_
  refine oX_dup dX1_init_88 trivial ?_
  obtain ⟨r22, g22, hm⟩ := bd_s hm
  refine oX_cI (as := []) dX1_init_89 rfl ok_J2_init rfl rfl rfl q180 q181 q132 q182 (by decide) (Nat.le_of_ble_eq_true rfl) (t_J2_init (313, C18 313) rfl g22) ?_
  obtain ⟨FR23, hFR23, hm⟩ := oLs hm
  refine oX_putF fX1_43 rfl (fun _ => rfl) oDs0 dX1_init_92 (by first | exact Or.inl ⟨_, rfl⟩ | exact Or.inr ⟨_, rfl⟩) hFR23 ?_
  refine oX_aload_n dX1_init_95 rfl rfl ?_
  obtain ⟨FI24, hFI24, hm⟩ := oLs hm
  obtain ⟨GR24, hGR24, hm⟩ := oLs hm
  obtain ⟨C24, hC24, hm⟩ := oLs hm
  refine oX_cost hm (fun qq24 hm => ?_)
  refine oX_newIG (s9 := 314) (k := oPl qq24 k) nX1_27 rfl (by decide) dX1_init_96 hFI24 hGR24 hC24 ?_
  refine oX_dup dX1_init_99 trivial ?_
  obtain ⟨r25, g25, hm⟩ := bd_s hm
  refine oX_cI (as := []) dX1_init_100 rfl ok_J2_init rfl rfl rfl q180 q181 q132 q182 (by decide) (Nat.le_of_ble_eq_true rfl) (t_J2_init (314, C21 314) rfl g25) ?_
  obtain ⟨FR26, hFR26, hm⟩ := oLs hm
  refine oX_putF fX1_46 rfl (fun _ => rfl) oDs0 dX1_init_103 (by first | exact Or.inl ⟨_, rfl⟩ | exact Or.inr ⟨_, rfl⟩) hFR26 ?_
  refine oX_aload_n dX1_init_106 rfl rfl ?_
  obtain ⟨FI27, hFI27, hm⟩ := oLs hm
  obtain ⟨FR27, hFR27, hm⟩ := oLs hm
  obtain ⟨C27, hC27, hm⟩ := oLs hm
  refine oX_cost hm (fun qq27 hm => ?_)
  refine oX_newIF (s9 := 315) (k := oPl qq27 k) nX1_49 rfl (by decide) dX1_init_107 hFI27 hFR27 hC27 ?_
  refine oX_dup dX1_init_110 trivial ?_
  obtain ⟨g28, hm⟩ := gd_s hm
  rw [g28]
  obtain ⟨r29, g29, hm⟩ := bd_s hm
  refine oX_cost hm (fun qq29 hm => ?_)
  refine oX_cIK (as := []) dX1_init_111 rfl ok_X2_init rfl rfl rfl q208 q209 q133 q210 (by decide) (Nat.le_of_ble_eq_true rfl) (t_X2_init n g29) (Nat.le_refl _) (Nat.le_refl _) ?_
  obtain ⟨FR30, hFR30, hm⟩ := oLs hm
  refine oX_putF fX1_52 rfl (fun _ => rfl) oDs0 dX1_init_114 (by first | exact Or.inl ⟨_, rfl⟩ | exact Or.inr ⟨_, rfl⟩) hFR30 ?_
  refine oX_aload_n dX1_init_117 rfl rfl ?_
  refine oX_bipush (v := (66 : Int32)) dX1_init_118 (by decide) ?_
  obtain ⟨BR31, hBR31, hm⟩ := oLs hm
  obtain ⟨AN31, hAN31, hm⟩ := oLs hm
  obtain ⟨C31, hC31, hm⟩ := oLs hm
  refine oX_cost hm (fun qq31 hm => ?_)
  refine oX_newa5 (k := oPl qq31 k) 316 rfl q254 q255 dX1_init_120 (by decide) (by decide) hBR31 hAN31 hC31 ?_
  obtain ⟨FR32, hFR32, hm⟩ := oLs hm
  refine oX_putF fX1_58 rfl (fun _ => rfl) oDs0 dX1_init_123 (by first | exact Or.inl ⟨_, rfl⟩ | exact Or.inr ⟨_, rfl⟩) hFR32 ?_
  refine oX_aload_n dX1_init_126 rfl rfl ?_
  refine oX_bipush (v := (66 : Int32)) dX1_init_127 (by decide) ?_
  refine oX_bipush (v := (8 : Int32)) dX1_init_129 (by decide) ?_
  obtain ⟨AR33, hAR33, hm⟩ := oLs hm
  obtain ⟨AI33, hAI33, hm⟩ := oLs hm
  obtain ⟨AN33, hAN33, hm⟩ := oLs hm
  obtain ⟨C33, hC33, hm⟩ := oLs hm
  refine oX_cost hm (fun qq33 hm => ?_)
  refine oX_multi (k := oPl qq33 k) 319 419 rfl rfl q256 q213 q205 dX1_init_131 (by decide) (by decide) hAR33 hAI33 hAN33 hC33 ?_
  obtain ⟨FR34, hFR34, hm⟩ := oLs hm
  refine oX_putF fX1_64 rfl (fun _ => rfl) oDs0 dX1_init_135 (by first | exact Or.inl ⟨_, rfl⟩ | exact Or.inr ⟨_, rfl⟩) hFR34 ?_
  refine oX_aload_n dX1_init_138 rfl rfl ?_
  refine oX_bipush (v := (66 : Int32)) dX1_init_139 (by decide) ?_
  refine oX_bipush (v := (8 : Int32)) dX1_init_141 (by decide) ?_
  obtain ⟨AR35, hAR35, hm⟩ := oLs hm
  obtain ⟨AI35, hAI35, hm⟩ := oLs hm
  obtain ⟨AN35, hAN35, hm⟩ := oLs hm
  obtain ⟨C35, hC35, hm⟩ := oLs hm
  refine oX_cost hm (fun qq35 hm => ?_)
  refine oX_multi (k := oPl qq35 k) 320 420 rfl rfl q256 q213 q205 dX1_init_143 (by decide) (by decide) hAR35 hAI35 hAN35 hC35 ?_
  obtain ⟨FR36, hFR36, hm⟩ := oLs hm
  refine oX_putF fX1_67 rfl (fun _ => rfl) oDs0 dX1_init_147 (by first | exact Or.inl ⟨_, rfl⟩ | exact Or.inr ⟨_, rfl⟩) hFR36 ?_
  refine oX_aload_n dX1_init_150 rfl rfl ?_
  refine oX_bipush (v := (66 : Int32)) dX1_init_151 (by decide) ?_
  refine oX_bipush (v := (8 : Int32)) dX1_init_153 (by decide) ?_
  obtain ⟨AR37, hAR37, hm⟩ := oLs hm
  obtain ⟨AI37, hAI37, hm⟩ := oLs hm
  obtain ⟨AN37, hAN37, hm⟩ := oLs hm
  obtain ⟨C37, hC37, hm⟩ := oLs hm
  refine oX_cost hm (fun qq37 hm => ?_)
  refine oX_multi (k := oPl qq37 k) 321 421 rfl rfl q256 q213 q205 dX1_init_155 (by decide) (by decide) hAR37 hAI37 hAN37 hC37 ?_
  obtain ⟨FR38, hFR38, hm⟩ := oLs hm
  refine oX_putF fX1_70 rfl (fun _ => rfl) oDs0 dX1_init_159 (by first | exact Or.inl ⟨_, rfl⟩ | exact Or.inr ⟨_, rfl⟩) hFR38 ?_
  refine oX_aload_n dX1_init_162 rfl rfl ?_
  refine oX_bipush (v := (66 : Int32)) dX1_init_163 (by decide) ?_
  refine oX_bipush (v := (9 : Int32)) dX1_init_165 (by decide) ?_
  obtain ⟨AR39, hAR39, hm⟩ := oLs hm
  obtain ⟨AI39, hAI39, hm⟩ := oLs hm
  obtain ⟨AN39, hAN39, hm⟩ := oLs hm
  obtain ⟨C39, hC39, hm⟩ := oLs hm
  refine oX_cost hm (fun qq39 hm => ?_)
  refine oX_multi (k := oPl qq39 k) 322 422 rfl rfl q256 q213 q205 dX1_init_167 (by decide) (by decide) hAR39 hAI39 hAN39 hC39 ?_
  obtain ⟨FR40, hFR40, hm⟩ := oLs hm
  refine oX_putF fX1_73 rfl (fun _ => rfl) oDs0 dX1_init_171 (by first | exact Or.inl ⟨_, rfl⟩ | exact Or.inr ⟨_, rfl⟩) hFR40 ?_
  refine oX_aload_n dX1_init_174 rfl rfl ?_
  refine oX_bipush (v := (120 : Int32)) dX1_init_175 (by decide) ?_
  obtain ⟨AI41, hAI41, hm⟩ := oLs hm
  obtain ⟨AN41, hAN41, hm⟩ := oLs hm
  obtain ⟨C41, hC41, hm⟩ := oLs hm
  refine oX_cost hm (fun qq41 hm => ?_)
  refine oX_newa1 (k := oPl qq41 k) 323 rfl q292 dX1_init_177 (by decide) (by decide) hAI41 hAN41 hC41 ?_
  obtain ⟨FR42, hFR42, hm⟩ := oLs hm
  refine oX_putF fX1_76 rfl (fun _ => rfl) oDs0 dX1_init_179 (by first | exact Or.inl ⟨_, rfl⟩ | exact Or.inr ⟨_, rfl⟩) hFR42 ?_
  refine oX_aload_n dX1_init_182 rfl rfl ?_
  refine oX_bipush (v := (120 : Int32)) dX1_init_183 (by decide) ?_
  obtain ⟨AI43, hAI43, hm⟩ := oLs hm
  obtain ⟨AN43, hAN43, hm⟩ := oLs hm
  obtain ⟨C43, hC43, hm⟩ := oLs hm
  refine oX_cost hm (fun qq43 hm => ?_)
  refine oX_newa1 (k := oPl qq43 k) 324 rfl q292 dX1_init_185 (by decide) (by decide) hAI43 hAN43 hC43 ?_
  obtain ⟨FR44, hFR44, hm⟩ := oLs hm
  refine oX_putF fX1_80 rfl (fun _ => rfl) oDs0 dX1_init_187 (by first | exact Or.inl ⟨_, rfl⟩ | exact Or.inr ⟨_, rfl⟩) hFR44 ?_
  refine oX_aload_n dX1_init_190 rfl rfl ?_
  refine oX_sipush (v := (720 : Int32)) dX1_init_191 (by decide) ?_
  obtain ⟨AI45, hAI45, hm⟩ := oLs hm
  obtain ⟨AN45, hAN45, hm⟩ := oLs hm
  obtain ⟨C45, hC45, hm⟩ := oLs hm
  refine oX_cost hm (fun qq45 hm => ?_)
  refine oX_newa1 (k := oPl qq45 k) 325 rfl q292 dX1_init_194 (by decide) (by decide) hAI45 hAN45 hC45 ?_
  obtain ⟨FR46, hFR46, hm⟩ := oLs hm
  refine oX_putF fX1_83 rfl (fun _ => rfl) oDs0 dX1_init_196 (by first | exact Or.inl ⟨_, rfl⟩ | exact Or.inr ⟨_, rfl⟩) hFR46 ?_
  refine oX_aload_n dX1_init_199 rfl rfl ?_
  refine oX_iconst (v := (0 : Int32)) dX1_init_200 (by decide) ?_
  obtain ⟨AI47, hAI47, hm⟩ := oLs hm
  obtain ⟨AN47, hAN47, hm⟩ := oLs hm
  obtain ⟨C47, hC47, hm⟩ := oLs hm
  refine oX_cost hm (fun qq47 hm => ?_)
  refine oX_newa0 (k := oPl qq47 k) 326 rfl q205 dX1_init_201 (by decide) (by decide) hAI47 hAN47 hC47 ?_
  obtain ⟨GR48, hGR48, hm⟩ := oLs hm
  refine oX_putG fX1_86 rfl (fun _ => rfl) oDs0 dX1_init_203 (by first | exact Or.inl ⟨_, rfl⟩ | exact Or.inr ⟨_, rfl⟩) hGR48 ?_
  refine oX_aload_n dX1_init_206 rfl rfl ?_
  obtain ⟨FI49, hFI49, hm⟩ := oLs hm
  obtain ⟨C49, hC49, hm⟩ := oLs hm
  refine oX_cost hm (fun qq49 hm => ?_)
  refine oX_newI (s9 := 327) (k := oPl qq49 k) nX1_89 rfl (by decide) dX1_init_207 hFI49 hC49 ?_
  refine oX_dup dX1_init_210 trivial ?_
  obtain ⟨g50, hm⟩ := gd_s hm
  rw [g50]
  obtain ⟨r51, g51, hm⟩ := bd_s hm
  refine oX_cIN (as := []) dX1_init_211 rfl ok_X3_init rfl rfl rfl q259 q260 q135 q261 (by decide) (Nat.le_of_ble_eq_true rfl) (t_X3_init g51) ?_
  obtain ⟨FR52, hFR52, hm⟩ := oLs hm
  refine oX_putF fX1_92 rfl (fun _ => rfl) oDs0 dX1_init_214 (by first | exact Or.inl ⟨_, rfl⟩ | exact Or.inr ⟨_, rfl⟩) hFR52 ?_
  refine oX_aload_n dX1_init_217 rfl rfl ?_
  refine oX_bipush (v := (66 : Int32)) dX1_init_218 (by decide) ?_
  refine oX_bipush (v := (9 : Int32)) dX1_init_220 (by decide) ?_
  obtain ⟨AR53, hAR53, hm⟩ := oLs hm
  obtain ⟨AI53, hAI53, hm⟩ := oLs hm
  obtain ⟨AN53, hAN53, hm⟩ := oLs hm
  obtain ⟨C53, hC53, hm⟩ := oLs hm
  refine oX_cost hm (fun qq53 hm => ?_)
  refine oX_multi (k := oPl qq53 k) 328 428 rfl rfl q256 q213 q205 dX1_init_222 (by decide) (by decide) hAR53 hAI53 hAN53 hC53 ?_
  obtain ⟨FR54, hFR54, hm⟩ := oLs hm
  refine oX_putF fX1_96 rfl (fun _ => rfl) oDs0 dX1_init_226 (by first | exact Or.inl ⟨_, rfl⟩ | exact Or.inr ⟨_, rfl⟩) hFR54 ?_
  refine oX_aload_n dX1_init_229 rfl rfl ?_
  refine oX_bipush (v := (6 : Int32)) dX1_init_230 (by decide) ?_
  obtain ⟨BR55, hBR55, hm⟩ := oLs hm
  obtain ⟨AN55, hAN55, hm⟩ := oLs hm
  obtain ⟨C55, hC55, hm⟩ := oLs hm
  refine oX_cost hm (fun qq55 hm => ?_)
  refine oX_newa5 (k := oPl qq55 k) 329 rfl q254 q255 dX1_init_232 (by decide) (by decide) hBR55 hAN55 hC55 ?_
  obtain ⟨FR56, hFR56, hm⟩ := oLs hm
  refine oX_putF fX1_99 rfl (fun _ => rfl) oDs0 dX1_init_235 (by first | exact Or.inl ⟨_, rfl⟩ | exact Or.inr ⟨_, rfl⟩) hFR56 ?_
  refine oX_aload_n dX1_init_238 rfl rfl ?_
  refine oX_bipush (v := (6 : Int32)) dX1_init_239 (by decide) ?_
  obtain ⟨AI57, hAI57, hm⟩ := oLs hm
  obtain ⟨AN57, hAN57, hm⟩ := oLs hm
  obtain ⟨C57, hC57, hm⟩ := oLs hm
  refine oX_cost hm (fun qq57 hm => ?_)
  refine oX_newa0 (k := oPl qq57 k) 330 rfl q205 dX1_init_241 (by decide) (by decide) hAI57 hAN57 hC57 ?_
  obtain ⟨FR58, hFR58, hm⟩ := oLs hm
  refine oX_putF fX1_102 rfl (fun _ => rfl) oDs0 dX1_init_243 (by first | exact Or.inl ⟨_, rfl⟩ | exact Or.inr ⟨_, rfl⟩) hFR58 ?_
  obtain ⟨rfl, rfl⟩ := oEnd hm
  exact oX_vret dX1_init_246 rfl hK
set_option maxHeartbeats 4000000 in
set_option maxRecDepth 100000 in
theorem t_X1_init {G : OhG} {FI AI : OhI} {FL AL : OhL} {FR GR AR BR : OhQ} {AN : OhN} {C : OhC} (n : Nat) {o : (OhI × OhQ × OhQ × OhI × OhQ × OhQ × OhN × OhC) × (Nat × Nat)} (hm : mX1_init n FI FR GR AI AR BR AN C = some o) : oT G 5 iX1_init [vR (some (0, 0))] (FI, FL, FR, GR, AI, AL, AR, BR, AN, C) o.2 (fun v h => v = none ∧ h = (o.1.1, FL, o.1.2.1, o.1.2.2.1, o.1.2.2.2.1, AL, o.1.2.2.2.2.1, o.1.2.2.2.2.2.1, o.1.2.2.2.2.2.2.1, o.1.2.2.2.2.2.2.2)) ohNo :=
  oT_of (by decide) rfl (Nat.le_of_ble_eq_true rfl) (x_mX1_init (k := (0, 0)) n hm ⟨rfl, rfl⟩)
