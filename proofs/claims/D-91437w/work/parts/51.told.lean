/-! MIRRORS of methods that make things: printed by gen/mk_alloc.py -/
abbrev iX0_told : OhM := (yX0_told, cX0_told, 5, (some .int), [(0, 10, 13, 13)])
theorem ok_X0_told : oOk iX0_told 4 := ⟨by decide, by decide, by decide +kernel⟩
noncomputable def mX0_told (FR : OhQ) (GR : OhQ) (AI : OhI) (AL : OhL) (AR : OhQ) (AN : OhN) (C : OhC) (x1 : Int32) (x2 : Int32) : Option ((Int32 × OhQ × OhL × OhC) × (Nat × Nat)) :=
  (mX1_told FR GR AI AR AN C x1 x2).bind fun r1 =>
  oCost r1.2 <|
  (Sum.elim (fun x1_ => some (((1 : Int32), x1_.2.1, AL, x1_.2.2), (0, 0))) (fun o1 => gd (vp_in (0 : Int32) (AN 2 0)) <|
  oLet (sA AL 2 0 (uA (AL 2 0) (0 : Int32).toNatClampNeg o1.1.toInt64)) fun AL2 =>
  some (((0 : Int32), o1.2.1, AL2, o1.2.2), (0, 0))) r1.1)
theorem x_mX0_told {G : OhG} {FI AI : OhI} {FL AL : OhL} {FR GR AR BR : OhQ} {AN : OhN} {C : OhC} {k : Nat × Nat} {Φ : OhP} {Ψ : OhX} (x1 : Int32) (x2 : Int32) {r : (Int32 × OhQ × OhL × OhC) × (Nat × Nat)} (hm : mX0_told FR GR AI AL AR AN C x1 x2 = some r) (hK : Φ (some (vI r.1.1)) (FI, FL, FR, r.1.2.1, AI, r.1.2.2.1, AR, BR, AN, r.1.2.2.2)) : oX G 9 iX0_told 0 [(0, vR (some (0, 0))), (1, vI x1), (2, vI x2), (3, vR (some (2, 0)))] [] (FI, FL, FR, GR, AI, AL, AR, BR, AN, C) (oPl r.2 k) Φ Ψ := by
  obtain ⟨r, q0⟩ := r
  unfold mX0_told at hm
  refine oX_aload_n dX0_told_0 rfl rfl ?_
  refine oX_iconst (v := (0 : Int32)) dX0_told_1 (by decide) ?_
  refine oX_aload_n dX0_told_2 rfl rfl ?_
  refine oX_iload_n dX0_told_3 rfl rfl ?_
  refine oX_iload_n dX0_told_4 rfl rfl ?_
  obtain ⟨r1, g1, hm⟩ := bd_s hm
  refine oX_cost hm (fun qq1 hm => ?_)
  refine oX_cVX (as := [vI x1, vI x2]) dX0_told_5 rfl oDs0 rfl (by decide) rfl ok_X1_told rfl rfl q1678 q1679 q1680 q129 q1681 (by decide) (Nat.le_of_ble_eq_true rfl) (t_X1_told x1 x2 g1) (Nat.le_refl _) (Nat.le_refl _) (fun o1 hz1 => ?_) (fun x1_ hz1 => ?_)
  · rw [hz1] at hm
    have hm := el2 hm
    refine oX_i2l dX0_told_8 ?_
    obtain ⟨g2, hm⟩ := gd_s hm
    obtain ⟨AL2, hAL2, hm⟩ := oLs hm
    refine oX_last oDs2 g2 dX0_told_9 hAL2 ?_
    refine oX_goto (tgt := 17) dX0_told_10 (by decide) ?_
    refine oX_iconst (v := (0 : Int32)) dX0_told_17 (by decide) ?_
    obtain ⟨rfl, rfl⟩ := oEnd hm
    exact oX_iret dX0_told_18 rfl rfl hK
  · rw [hz1] at hm
    have hm := el1 hm
    refine oXt_catch rfl (by decide) (by decide) q1677 q1684 ?_
    refine oX_astore (ls' := [(4, vR (some x1_.1)), (0, vR (some (0, 0))), (1, vI x1), (2, vI x2), (3, vR (some (2, 0)))]) dX0_told_13 (by decide) rfl ?_
    refine oX_iconst (v := (1 : Int32)) dX0_told_15 (by decide) ?_
    obtain ⟨rfl, rfl⟩ := oEnd hm
    exact oX_iret dX0_told_16 rfl rfl hK
theorem t_X0_told {G : OhG} {FI AI : OhI} {FL AL : OhL} {FR GR AR BR : OhQ} {AN : OhN} {C : OhC} (x1 : Int32) (x2 : Int32) {o : (Int32 × OhQ × OhL × OhC) × (Nat × Nat)} (hm : mX0_told FR GR AI AL AR AN C x1 x2 = some o) : oT G 9 iX0_told [vR (some (0, 0)), vI x1, vI x2, vR (some (2, 0))] (FI, FL, FR, GR, AI, AL, AR, BR, AN, C) o.2 (fun v h => v = (some (vI o.1.1)) ∧ h = (FI, FL, FR, o.1.2.1, AI, o.1.2.2.1, AR, BR, AN, o.1.2.2.2)) ohNo :=
  oT_ofH (plainFor_of_name (by decide)) rfl (Nat.le_of_ble_eq_true rfl) (x_mX0_told (k := (0, 0)) x1 x2 hm ⟨rfl, rfl⟩)
