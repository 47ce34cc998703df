/-! MIRRORS of the members of String, StringBuilder, Arrays that the Reader calls: printed by gen/mk_jdk.py -/
abbrev iJ8_isLatin1 : OhM := (yJ8_isLatin1, cJ8_isLatin1, 1, (some .boolean), [])
theorem ok_J8_isLatin1 : oOk iJ8_isLatin1 0 := ⟨by decide, by decide, by decide +kernel⟩
noncomputable def mJ8_isLatin1 (FI : OhI) (t : Nat × Nat) : Option (Int32) :=
  (if (1 : Int32) = 0 then
  some (0 : Int32)
else
  (if (FI t.1 t.2 1) = 0 then
    some (1 : Int32)
  else
    some (0 : Int32)))
theorem x_mJ8_isLatin1 {G : OhG} {FI AI : OhI} {FL AL : OhL} {FR GR AR BR : OhQ} {AN : OhN} {C : OhC} {k : Nat × Nat} {Φ : OhP} {Ψ : OhX} (t : Nat × Nat) (ht : ohKd t.1 = 18 ∨ ohKd t.1 = 130) {r : Int32} (hm : mJ8_isLatin1 FI t = some r) (hK : Φ (some (vI r)) (FI, FL, FR, GR, AI, AL, AR, BR, AN, C)) : oX G 1 iJ8_isLatin1 0 [(0, vR (some t))] [] (FI, FL, FR, GR, AI, AL, AR, BR, AN, C) k Φ Ψ := by
  unfold mJ8_isLatin1 at hm
  refine oX_getsI (x := 1) (fun _ => List.mem_cons_of_mem _ (List.mem_cons_self)) q739 dJ8_isLatin1_0 ?_
  refine oX_if_eq (tgt := 17) dJ8_isLatin1_3 (by decide) (fun c1 => ?_) (fun c1 => ?_)
  · have hm := ifp c1 hm
    refine oX_iconst (v := (0 : Int32)) dJ8_isLatin1_17 (by decide) ?_
    obtain rfl := Option.some.inj hm
    exact oX_iret dJ8_isLatin1_18 rfl (by decide) hK
  · have hm := ifn c1 hm
    refine oX_aload_n dJ8_isLatin1_6 rfl rfl ?_
    refine oX_getIS fJ8_15 (oDS_t ht) dJ8_isLatin1_7 ?_
    refine oX_if_ne (tgt := 17) dJ8_isLatin1_10 (by decide) (fun c2 => ?_) (fun c2 => ?_)
    · have hm := ifp c2 hm
      refine oX_iconst (v := (1 : Int32)) dJ8_isLatin1_13 (by decide) ?_
      refine oX_goto (tgt := 18) dJ8_isLatin1_14 (by decide) ?_
      obtain rfl := Option.some.inj hm
      exact oX_iret dJ8_isLatin1_18 rfl (by decide) hK
    · have hm := ifn c2 hm
      refine oX_iconst (v := (0 : Int32)) dJ8_isLatin1_17 (by decide) ?_
      obtain rfl := Option.some.inj hm
      exact oX_iret dJ8_isLatin1_18 rfl (by decide) hK
theorem t_J8_isLatin1 {G : OhG} {FI AI : OhI} {FL AL : OhL} {FR GR AR BR : OhQ} {AN : OhN} {C : OhC} (t : Nat × Nat) (ht : ohKd t.1 = 18 ∨ ohKd t.1 = 130) {o : Int32} (hm : mJ8_isLatin1 FI t = some o) : oT G 1 iJ8_isLatin1 [vR (some t)] (FI, FL, FR, GR, AI, AL, AR, BR, AN, C) (0, 0) (fun v h => v = (some (vI o)) ∧ h = (FI, FL, FR, GR, AI, AL, AR, BR, AN, C)) ohNo :=
  oT_of (by decide) rfl (Nat.le_of_ble_eq_true rfl) (x_mJ8_isLatin1 t ht hm ⟨rfl, rfl⟩)
abbrev iJ8_coder : OhM := (yJ8_coder, cJ8_coder, 1, (some .byte), [])
theorem ok_J8_coder : oOk iJ8_coder 0 := ⟨by decide, by decide, by decide +kernel⟩
noncomputable def mJ8_coder (FI : OhI) (t : Nat × Nat) : Option (Int32) :=
  (if (1 : Int32) = 0 then
  some (1 : Int32)
else
  gd (narrow .byte (.int (FI t.1 t.2 1)) = .int (FI t.1 t.2 1)) <|
    some (FI t.1 t.2 1))
theorem x_mJ8_coder {G : OhG} {FI AI : OhI} {FL AL : OhL} {FR GR AR BR : OhQ} {AN : OhN} {C : OhC} {k : Nat × Nat} {Φ : OhP} {Ψ : OhX} (t : Nat × Nat) (ht : ohKd t.1 = 18 ∨ ohKd t.1 = 130) {r : Int32} (hm : mJ8_coder FI t = some r) (hK : Φ (some (vI r)) (FI, FL, FR, GR, AI, AL, AR, BR, AN, C)) : oX G 1 iJ8_coder 0 [(0, vR (some t))] [] (FI, FL, FR, GR, AI, AL, AR, BR, AN, C) k Φ Ψ := by
  unfold mJ8_coder at hm
  refine oX_getsI (x := 1) (fun _ => List.mem_cons_of_mem _ (List.mem_cons_self)) q739 dJ8_coder_0 ?_
  refine oX_if_eq (tgt := 13) dJ8_coder_3 (by decide) (fun c1 => ?_) (fun c1 => ?_)
  · have hm := ifp c1 hm
    refine oX_iconst (v := (1 : Int32)) dJ8_coder_13 (by decide) ?_
    obtain rfl := Option.some.inj hm
    exact oX_iret dJ8_coder_14 rfl (by decide) hK
  · have hm := ifn c1 hm
    refine oX_aload_n dJ8_coder_6 rfl rfl ?_
    refine oX_getIS fJ8_15 (oDS_t ht) dJ8_coder_7 ?_
    refine oX_goto (tgt := 14) dJ8_coder_10 (by decide) ?_
    obtain ⟨g2, hm⟩ := gd_s hm
    obtain rfl := Option.some.inj hm
    exact oX_iret dJ8_coder_14 rfl g2 hK
theorem t_J8_coder {G : OhG} {FI AI : OhI} {FL AL : OhL} {FR GR AR BR : OhQ} {AN : OhN} {C : OhC} (t : Nat × Nat) (ht : ohKd t.1 = 18 ∨ ohKd t.1 = 130) {o : Int32} (hm : mJ8_coder FI t = some o) : oT G 1 iJ8_coder [vR (some t)] (FI, FL, FR, GR, AI, AL, AR, BR, AN, C) (0, 0) (fun v h => v = (some (vI o)) ∧ h = (FI, FL, FR, GR, AI, AL, AR, BR, AN, C)) ohNo :=
  oT_of (by decide) rfl (Nat.le_of_ble_eq_true rfl) (x_mJ8_coder t ht hm ⟨rfl, rfl⟩)
abbrev iJ8_length : OhM := (yJ8_length, cJ8_length, 1, (some .int), [])
theorem ok_J8_length : oOk iJ8_length 0 := ⟨by decide, by decide, by decide +kernel⟩
noncomputable def mJ8_length (FI : OhI) (FR : OhQ) (AN : OhN) (t : Nat × Nat) : Option (Int32) :=
  (oD2 2 (FR t.1 t.2 0)).bind fun a1 =>
  (mJ8_coder FI t).bind fun r2 =>
  some ((Int32.ofNat (AN a1.1 a1.2)) >>> (r2 &&& 31))
theorem x_mJ8_length {G : OhG} {FI AI : OhI} {FL AL : OhL} {FR GR AR BR : OhQ} {AN : OhN} {C : OhC} {k : Nat × Nat} {Φ : OhP} {Ψ : OhX} (t : Nat × Nat) (ht : ohKd t.1 = 18 ∨ ohKd t.1 = 130) {r : Int32} (hm : mJ8_length FI FR AN t = some r) (hK : Φ (some (vI r)) (FI, FL, FR, GR, AI, AL, AR, BR, AN, C)) : oX G 2 iJ8_length 0 [(0, vR (some t))] [] (FI, FL, FR, GR, AI, AL, AR, BR, AN, C) k Φ Ψ := by
  unfold mJ8_length at hm
  refine oX_aload_n dJ8_length_0 rfl rfl ?_
  refine oX_getFS fJ8_9 (oDS_t ht) dJ8_length_1 ?_
  obtain ⟨a1, e1, hm⟩ := bd_s hm
  refine oX_alen2 2 (by decide) e1 dJ8_length_4 ?_
  refine oX_aload_n dJ8_length_5 rfl rfl ?_
  obtain ⟨r2, g2, hm⟩ := bd_s hm
  refine oX_cVS (as := []) dJ8_length_6 rfl (oDS_t ht) rfl ok_J8_coder rfl rfl q745 q746 q747 q147 q748 (by decide) (Nat.le_of_ble_eq_true rfl) (t_J8_coder t ht g2) ?_
  refine oX_ishr dJ8_length_9 ?_
  obtain rfl := Option.some.inj hm
  exact oX_iret dJ8_length_10 rfl rfl hK
theorem t_J8_length {G : OhG} {FI AI : OhI} {FL AL : OhL} {FR GR AR BR : OhQ} {AN : OhN} {C : OhC} (t : Nat × Nat) (ht : ohKd t.1 = 18 ∨ ohKd t.1 = 130) {o : Int32} (hm : mJ8_length FI FR AN t = some o) : oT G 2 iJ8_length [vR (some t)] (FI, FL, FR, GR, AI, AL, AR, BR, AN, C) (0, 0) (fun v h => v = (some (vI o)) ∧ h = (FI, FL, FR, GR, AI, AL, AR, BR, AN, C)) ohNo :=
  oT_of (by decide) rfl (Nat.le_of_ble_eq_true rfl) (x_mJ8_length t ht hm ⟨rfl, rfl⟩)
abbrev iJ9_canEncode : OhM := (yJ9_canEncode, cJ9_canEncode, 1, (some .boolean), [])
theorem ok_J9_canEncode : oOk iJ9_canEncode 1 := ⟨by decide, by decide, by decide +kernel⟩
noncomputable def mJ9_canEncode (x0 : Int32) : Option (Int32) :=
  (if x0 < 0 then
  some (0 : Int32)
else
  (if (255 : Int32) < x0 then
    some (0 : Int32)
  else
    some (1 : Int32)))
theorem x_mJ9_canEncode {G : OhG} {FI AI : OhI} {FL AL : OhL} {FR GR AR BR : OhQ} {AN : OhN} {C : OhC} {k : Nat × Nat} {Φ : OhP} {Ψ : OhX} (x0 : Int32) {r : Int32} (hm : mJ9_canEncode x0 = some r) (hK : Φ (some (vI r)) (FI, FL, FR, GR, AI, AL, AR, BR, AN, C)) : oX G 1 iJ9_canEncode 0 [(0, vI x0)] [] (FI, FL, FR, GR, AI, AL, AR, BR, AN, C) k Φ Ψ := by
  unfold mJ9_canEncode at hm
  refine oX_iload_n dJ9_canEncode_0 rfl rfl ?_
  refine oX_if_lt (tgt := 15) dJ9_canEncode_1 (by decide) (fun c1 => ?_) (fun c1 => ?_)
  · have hm := ifp c1 hm
    refine oX_iconst (v := (0 : Int32)) dJ9_canEncode_15 (by decide) ?_
    obtain rfl := Option.some.inj hm
    exact oX_iret dJ9_canEncode_16 rfl (by decide) hK
  · have hm := ifn c1 hm
    refine oX_iload_n dJ9_canEncode_4 rfl rfl ?_
    refine oX_sipush (v := (255 : Int32)) dJ9_canEncode_5 (by decide) ?_
    refine oX_icmp_gt (tgt := 15) dJ9_canEncode_8 (by decide) (fun c2 => ?_) (fun c2 => ?_)
    · have hm := ifp c2 hm
      refine oX_iconst (v := (0 : Int32)) dJ9_canEncode_15 (by decide) ?_
      obtain rfl := Option.some.inj hm
      exact oX_iret dJ9_canEncode_16 rfl (by decide) hK
    · have hm := ifn c2 hm
      refine oX_iconst (v := (1 : Int32)) dJ9_canEncode_11 (by decide) ?_
      refine oX_goto (tgt := 16) dJ9_canEncode_12 (by decide) ?_
      obtain rfl := Option.some.inj hm
      exact oX_iret dJ9_canEncode_16 rfl (by decide) hK
theorem t_J9_canEncode {G : OhG} {FI AI : OhI} {FL AL : OhL} {FR GR AR BR : OhQ} {AN : OhN} {C : OhC} (x0 : Int32) {o : Int32} (hm : mJ9_canEncode x0 = some o) : oT G 1 iJ9_canEncode [vI x0] (FI, FL, FR, GR, AI, AL, AR, BR, AN, C) (0, 0) (fun v h => v = (some (vI o)) ∧ h = (FI, FL, FR, GR, AI, AL, AR, BR, AN, C)) ohNo :=
  oT_of (by decide) rfl (Nat.le_of_ble_eq_true rfl) (x_mJ9_canEncode x0 hm ⟨rfl, rfl⟩)
abbrev iJ9_indexOfChar : OhM := (yJ9_indexOfChar, cJ9_indexOfChar, 6, (some .int), [])
theorem ok_J9_indexOfChar : oOk iJ9_indexOfChar 4 := ⟨by decide, by decide, by decide +kernel⟩
noncomputable def mJ9_indexOfChar_b7 (n : Nat) (AI : OhI) (AN : OhN) (x0 : OhR) (x3 : Int32) (x4 : Int32) (x5 : Int32) : Option ((Int32) ⊕ ((Unit) ⊕ (Int32))) :=
  (if x3 ≤ x5 then
  some (.inr (.inl ()))
else
  (oD2 2 x0).bind fun a2 =>
    gd (vp_in x5 (AN a2.1 a2.2)) <|
    (if (AI a2.1 a2.2 x5.toNatClampNeg) = x4 then
    some (.inr (.inr x5))
  else
    some (.inl (x5 + (1 : Int32)))))
theorem x_mJ9_indexOfChar_b7 {G : OhG} {FI AI : OhI} {FL AL : OhL} {FR GR AR BR : OhQ} {AN : OhN} {C : OhC} {k : Nat × Nat} {Φ : OhP} {Ψ : OhX} (n : Nat) (x0 : OhR) (x3 : Int32) (x4 : Int32) (x5 : Int32) {r : (Int32) ⊕ ((Unit) ⊕ (Int32))} (hm : mJ9_indexOfChar_b7 n AI AN x0 x3 x4 x5 = some r) (hk : ∀ v : Int32, r = .inl v → oX G 1 iJ9_indexOfChar 7 [(0, vR x0), (3, vI x3), (4, vI x4), (5, vI v)] [] (FI, FL, FR, GR, AI, AL, AR, BR, AN, C) k Φ Ψ) (hx1 : ∀ v : Unit, r = .inr (.inl v) → oX G 1 iJ9_indexOfChar 31 [] [] (FI, FL, FR, GR, AI, AL, AR, BR, AN, C) k Φ Ψ) (hx2 : ∀ v : Int32, r = .inr (.inr v) → oX G 1 iJ9_indexOfChar 22 [(5, vI v)] [] (FI, FL, FR, GR, AI, AL, AR, BR, AN, C) k Φ Ψ) : oX G 1 iJ9_indexOfChar 7 [(0, vR x0), (3, vI x3), (4, vI x4), (5, vI x5)] [] (FI, FL, FR, GR, AI, AL, AR, BR, AN, C) k Φ Ψ := by
  unfold mJ9_indexOfChar_b7 at hm
  refine oX_iload dJ9_indexOfChar_7 rfl ?_
  refine oX_iload_n dJ9_indexOfChar_9 rfl rfl ?_
  refine oX_icmp_ge (tgt := 31) dJ9_indexOfChar_10 (by decide) (fun c1 => ?_) (fun c1 => ?_)
  · have hm := ifp c1 hm
    exact oX_sub [] rfl (hx1 () (Option.some.inj hm).symm)
  · have hm := ifn c1 hm
    refine oX_aload_n dJ9_indexOfChar_13 rfl rfl ?_
    refine oX_iload dJ9_indexOfChar_14 rfl ?_
    obtain ⟨a2, e2, hm⟩ := bd_s hm
    obtain ⟨g3, hm⟩ := gd_s hm
    refine oX_bald2 e2 g3 dJ9_indexOfChar_16 ?_
    refine oX_iload dJ9_indexOfChar_17 rfl ?_
    refine oX_icmp_ne (tgt := 25) dJ9_indexOfChar_19 (by decide) (fun c4 => ?_) (fun c4 => ?_)
    · have hm := ifp c4 hm
      exact oX_sub [3] rfl (hx2 x5 (Option.some.inj hm).symm)
    · have hm := ifn c4 hm
      refine oX_iinc (v := x5 + (1 : Int32)) (ls' := [(5, vI (x5 + (1 : Int32))), (0, vR x0), (3, vI x3), (4, vI x4)]) dJ9_indexOfChar_25 rfl rfl (by decide) rfl ?_
      refine oX_goto (tgt := 7) dJ9_indexOfChar_28 (by decide) ?_
      exact oX_sub [1, 2, 3, 0] rfl (hk (x5 + (1 : Int32)) (Option.some.inj hm).symm)
theorem l_mJ9_indexOfChar_b7 {G : OhG} {FI : OhI} {FL : OhL} {FR : OhQ} {GR : OhQ} {AI : OhI} {AL : OhL} {AR : OhQ} {BR : OhQ} {AN : OhN} {C : OhC} {k : Nat × Nat} {Φ : OhP} {Ψ : OhX} (n : Nat) (x0 : OhR) (x3 : Int32) (x4 : Int32) : ∀ (f : Nat) (x5 : Int32) (b : ((Unit) ⊕ (Int32))), lpF (fun v => mJ9_indexOfChar_b7 n AI AN x0 x3 x4 v) f x5 = some b → (∀ v : Unit, b = (.inl v) → oX G 1 iJ9_indexOfChar 31 [] [] (FI, FL, FR, GR, AI, AL, AR, BR, AN, C) k Φ Ψ) → (∀ v : Int32, b = (.inr v) → oX G 1 iJ9_indexOfChar 22 [(5, vI v)] [] (FI, FL, FR, GR, AI, AL, AR, BR, AN, C) k Φ Ψ) → oX G 1 iJ9_indexOfChar 7 [(0, vR x0), (3, vI x3), (4, vI x4), (5, vI x5)] [] (FI, FL, FR, GR, AI, AL, AR, BR, AN, C) k Φ Ψ := by
  intro f
  induction f with
  | zero =>
    intro x5 b hm
    cases hm
  | succ f ih =>
    intro x5 b hm hx1 hx2
    obtain ⟨r, hr, hm⟩ := lp_s hm
    refine x_mJ9_indexOfChar_b7 n x0 x3 x4 x5 hr (fun v e => ?_) (fun v e => ?_) (fun v e => ?_)
    · subst e; exact ih v _ hm hx1 hx2
    · subst e; exact hx1 v hm.symm
    · subst e; exact hx2 v hm.symm
noncomputable def mJ9_indexOfChar (n : Nat) (AI : OhI) (AN : OhN) (x0 : OhR) (x1 : Int32) (x2 : Int32) (x3 : Int32) : Option (Int32) :=
  (lpF (fun v => mJ9_indexOfChar_b7 n AI AN x0 x3 x1.toInt8.toInt32 v) n x2).bind (Sum.elim (fun v5 => some (-1 : Int32)) (fun v5 => some v5))
theorem x_mJ9_indexOfChar {G : OhG} {FI AI : OhI} {FL AL : OhL} {FR GR AR BR : OhQ} {AN : OhN} {C : OhC} {k : Nat × Nat} {Φ : OhP} {Ψ : OhX} (n : Nat) (x0 : OhR) (x1 : Int32) (x2 : Int32) (x3 : Int32) {r : Int32} (hm : mJ9_indexOfChar n AI AN x0 x1 x2 x3 = some r) (hK : Φ (some (vI r)) (FI, FL, FR, GR, AI, AL, AR, BR, AN, C)) : oX G 1 iJ9_indexOfChar 0 [(0, vR x0), (1, vI x1), (2, vI x2), (3, vI x3)] [] (FI, FL, FR, GR, AI, AL, AR, BR, AN, C) k Φ Ψ := by
  unfold mJ9_indexOfChar at hm
  refine oX_iload_n dJ9_indexOfChar_0 rfl rfl ?_
  refine oX_i2b dJ9_indexOfChar_1 ?_
  refine oX_istore (ls' := [(4, vI x1.toInt8.toInt32), (0, vR x0), (1, vI x1), (2, vI x2), (3, vI x3)]) dJ9_indexOfChar_2 (by decide) rfl ?_
  refine oX_iload_n dJ9_indexOfChar_4 rfl rfl ?_
  refine oX_istore (ls' := [(5, vI x2), (4, vI x1.toInt8.toInt32), (0, vR x0), (1, vI x1), (2, vI x2), (3, vI x3)]) dJ9_indexOfChar_5 (by decide) rfl ?_
  obtain ⟨b5, g5, hm⟩ := bd_s hm
  refine oX_sub [2, 5, 1, 0] rfl (l_mJ9_indexOfChar_b7 n x0 x3 x1.toInt8.toInt32 n x2 _ g5 (fun v5 e5 => ?_) (fun v5 e5 => ?_))
  · subst e5
    have hm := el1 hm
    refine oX_iconst (v := (-1 : Int32)) dJ9_indexOfChar_31 (by decide) ?_
    obtain rfl := Option.some.inj hm
    exact oX_iret dJ9_indexOfChar_32 rfl rfl hK
  · subst e5
    have hm := el2 hm
    refine oX_iload dJ9_indexOfChar_22 rfl ?_
    obtain rfl := Option.some.inj hm
    exact oX_iret dJ9_indexOfChar_24 rfl rfl hK
theorem t_J9_indexOfChar {G : OhG} {FI AI : OhI} {FL AL : OhL} {FR GR AR BR : OhQ} {AN : OhN} {C : OhC} (n : Nat) (x0 : OhR) (x1 : Int32) (x2 : Int32) (x3 : Int32) {o : Int32} (hm : mJ9_indexOfChar n AI AN x0 x1 x2 x3 = some o) : oT G 1 iJ9_indexOfChar [vR x0, vI x1, vI x2, vI x3] (FI, FL, FR, GR, AI, AL, AR, BR, AN, C) (0, 0) (fun v h => v = (some (vI o)) ∧ h = (FI, FL, FR, GR, AI, AL, AR, BR, AN, C)) ohNo :=
  oT_of (by decide) rfl (Nat.le_of_ble_eq_true rfl) (x_mJ9_indexOfChar n x0 x1 x2 x3 hm ⟨rfl, rfl⟩)
abbrev iJ9_indexOf : OhM := (yJ9_indexOf, cJ9_indexOf, 4, (some .int), [])
theorem ok_J9_indexOf : oOk iJ9_indexOf 4 := ⟨by decide, by decide, by decide +kernel⟩
noncomputable def mJ9_indexOf (n : Nat) (AI : OhI) (AN : OhN) (x0 : OhR) (x1 : Int32) (x2 : Int32) (x3 : Int32) : Option (Int32) :=
  (mJ9_canEncode x1).bind fun r1 =>
  (if r1 = 0 then
  some (-1 : Int32)
else
  (mJ3_max x2 (0 : Int32)).bind fun r3 =>
    (oD2 2 x0).bind fun a4 =>
    (mJ3_min x3 (Int32.ofNat (AN a4.1 a4.2))).bind fun r5 =>
    (if r3 < r5 then
    (mJ9_indexOfChar n AI AN x0 x1 r3 r5).bind fun r7 =>
      some r7
  else
    some (-1 : Int32)))
theorem x_mJ9_indexOf {G : OhG} {FI AI : OhI} {FL AL : OhL} {FR GR AR BR : OhQ} {AN : OhN} {C : OhC} {k : Nat × Nat} {Φ : OhP} {Ψ : OhX} (n : Nat) (x0 : OhR) (x1 : Int32) (x2 : Int32) (x3 : Int32) {r : Int32} (hm : mJ9_indexOf n AI AN x0 x1 x2 x3 = some r) (hK : Φ (some (vI r)) (FI, FL, FR, GR, AI, AL, AR, BR, AN, C)) : oX G 2 iJ9_indexOf 0 [(0, vR x0), (1, vI x1), (2, vI x2), (3, vI x3)] [] (FI, FL, FR, GR, AI, AL, AR, BR, AN, C) k Φ Ψ := by
  unfold mJ9_indexOf at hm
  refine oX_iload_n dJ9_indexOf_0 rfl rfl ?_
  obtain ⟨r1, g1, hm⟩ := bd_s hm
  refine oX_cS (as := [vI x1]) dJ9_indexOf_1 rfl ok_J9_canEncode rfl rfl q752 q753 q148 q754 (by decide) (Nat.le_of_ble_eq_true rfl) (t_J9_canEncode x1 g1) ?_
  refine oX_if_ne (tgt := 9) dJ9_indexOf_4 (by decide) (fun c2 => ?_) (fun c2 => ?_)
  · have hm := ifp c2 hm
    refine oX_iconst (v := (-1 : Int32)) dJ9_indexOf_7 (by decide) ?_
    obtain rfl := Option.some.inj hm
    exact oX_iret dJ9_indexOf_8 rfl rfl hK
  · have hm := ifn c2 hm
    refine oX_iload_n dJ9_indexOf_9 rfl rfl ?_
    refine oX_iconst (v := (0 : Int32)) dJ9_indexOf_10 (by decide) ?_
    obtain ⟨r3, g3, hm⟩ := bd_s hm
    refine oX_cS (as := [vI x2, vI (0 : Int32)]) dJ9_indexOf_11 rfl ok_J3_max rfl rfl q755 q235 q134 q236 (by decide) (Nat.le_of_ble_eq_true rfl) (t_J3_max x2 (0 : Int32) g3) ?_
    refine oX_istore_n (ls' := [(2, vI r3), (0, vR x0), (1, vI x1), (3, vI x3)]) dJ9_indexOf_14 rfl (by decide) rfl ?_
    refine oX_iload_n dJ9_indexOf_15 rfl rfl ?_
    refine oX_aload_n dJ9_indexOf_16 rfl rfl ?_
    obtain ⟨a4, e4, hm⟩ := bd_s hm
    refine oX_alen2 2 (by decide) e4 dJ9_indexOf_17 ?_
    obtain ⟨r5, g5, hm⟩ := bd_s hm
    refine oX_cS (as := [vI x3, vI (Int32.ofNat (AN a4.1 a4.2))]) dJ9_indexOf_18 rfl ok_J3_min rfl rfl q756 q232 q134 q233 (by decide) (Nat.le_of_ble_eq_true rfl) (t_J3_min x3 (Int32.ofNat (AN a4.1 a4.2)) g5) ?_
    refine oX_istore_n (ls' := [(3, vI r5), (2, vI r3), (0, vR x0), (1, vI x1)]) dJ9_indexOf_21 rfl (by decide) rfl ?_
    refine oX_iload_n dJ9_indexOf_22 rfl rfl ?_
    refine oX_iload_n dJ9_indexOf_23 rfl rfl ?_
    refine oX_icmp_lt (tgt := 29) dJ9_indexOf_24 (by decide) (fun c6 => ?_) (fun c6 => ?_)
    · have hm := ifp c6 hm
      refine oX_aload_n dJ9_indexOf_29 rfl rfl ?_
      refine oX_iload_n dJ9_indexOf_30 rfl rfl ?_
      refine oX_iload_n dJ9_indexOf_31 rfl rfl ?_
      refine oX_iload_n dJ9_indexOf_32 rfl rfl ?_
      obtain ⟨r7, g7, hm⟩ := bd_s hm
      refine oX_cS (as := [vR x0, vI x1, vI r3, vI r5]) dJ9_indexOf_33 rfl ok_J9_indexOfChar rfl rfl q757 q758 q148 q759 (by decide) (Nat.le_of_ble_eq_true rfl) (t_J9_indexOfChar n x0 x1 r3 r5 g7) ?_
      obtain rfl := Option.some.inj hm
      exact oX_iret dJ9_indexOf_36 rfl rfl hK
    · have hm := ifn c6 hm
      refine oX_iconst (v := (-1 : Int32)) dJ9_indexOf_27 (by decide) ?_
      obtain rfl := Option.some.inj hm
      exact oX_iret dJ9_indexOf_28 rfl rfl hK
theorem t_J9_indexOf {G : OhG} {FI AI : OhI} {FL AL : OhL} {FR GR AR BR : OhQ} {AN : OhN} {C : OhC} (n : Nat) (x0 : OhR) (x1 : Int32) (x2 : Int32) (x3 : Int32) {o : Int32} (hm : mJ9_indexOf n AI AN x0 x1 x2 x3 = some o) : oT G 2 iJ9_indexOf [vR x0, vI x1, vI x2, vI x3] (FI, FL, FR, GR, AI, AL, AR, BR, AN, C) (0, 0) (fun v h => v = (some (vI o)) ∧ h = (FI, FL, FR, GR, AI, AL, AR, BR, AN, C)) ohNo :=
  oT_of (by decide) rfl (Nat.le_of_ble_eq_true rfl) (x_mJ9_indexOf n x0 x1 x2 x3 hm ⟨rfl, rfl⟩)
abbrev iJ8_indexOf_2 : OhM := (yJ8_indexOf_2, cJ8_indexOf_2, 3, (some .int), [])
theorem ok_J8_indexOf_2 : oOk iJ8_indexOf_2 2 := ⟨by decide, by decide, by decide +kernel⟩
noncomputable def mJ8_indexOf_2 (n : Nat) (FI : OhI) (FR : OhQ) (AI : OhI) (AN : OhN) (t : Nat × Nat) (x1 : Int32) (x2 : Int32) : Option (Int32) :=
  (mJ8_isLatin1 FI t).bind fun r1 =>
  (if r1 = 0 then
  (mJ8_length FI FR AN t).bind fun r3 =>
    none
else
  (mJ8_length FI FR AN t).bind fun r4 =>
    (mJ9_indexOf n AI AN (FR t.1 t.2 0) x1 x2 r4).bind fun r5 =>
    some r5)
theorem x_mJ8_indexOf_2 {G : OhG} {FI AI : OhI} {FL AL : OhL} {FR GR AR BR : OhQ} {AN : OhN} {C : OhC} {k : Nat × Nat} {Φ : OhP} {Ψ : OhX} (n : Nat) (t : Nat × Nat) (ht : ohKd t.1 = 18 ∨ ohKd t.1 = 130) (x1 : Int32) (x2 : Int32) {r : Int32} (hm : mJ8_indexOf_2 n FI FR AI AN t x1 x2 = some r) (hK : Φ (some (vI r)) (FI, FL, FR, GR, AI, AL, AR, BR, AN, C)) : oX G 3 iJ8_indexOf_2 0 [(0, vR (some t)), (1, vI x1), (2, vI x2)] [] (FI, FL, FR, GR, AI, AL, AR, BR, AN, C) k Φ Ψ := by
  unfold mJ8_indexOf_2 at hm
  refine oX_aload_n dJ8_indexOf_2_0 rfl rfl ?_
  obtain ⟨r1, g1, hm⟩ := bd_s hm
  refine oX_cVS (as := []) dJ8_indexOf_2_1 rfl (oDS_t ht) rfl ok_J8_isLatin1 rfl rfl q735 q736 q737 q147 q738 (by decide) (Nat.le_of_ble_eq_true rfl) (t_J8_isLatin1 t ht g1) ?_
  refine oX_if_eq (tgt := 23) dJ8_indexOf_2_4 (by decide) (fun c2 => ?_) (fun c2 => ?_)
  · have hm := ifp c2 hm
    refine oX_aload_n dJ8_indexOf_2_23 rfl rfl ?_
    refine oX_getFS fJ8_9 (oDS_t ht) dJ8_indexOf_2_24 ?_
    refine oX_iload_n dJ8_indexOf_2_27 rfl rfl ?_
    refine oX_iload_n dJ8_indexOf_2_28 rfl rfl ?_
    refine oX_aload_n dJ8_indexOf_2_29 rfl rfl ?_
    obtain ⟨r3, g3, hm⟩ := bd_s hm
    refine oX_cVS (as := []) dJ8_indexOf_2_30 rfl (oDS_t ht) rfl ok_J8_length rfl rfl q741 q742 q743 q147 q744 (by decide) (Nat.le_of_ble_eq_true rfl) (t_J8_length t ht g3) ?_
    cases hm
  · have hm := ifn c2 hm
    refine oX_aload_n dJ8_indexOf_2_7 rfl rfl ?_
    refine oX_getFS fJ8_9 (oDS_t ht) dJ8_indexOf_2_8 ?_
    refine oX_iload_n dJ8_indexOf_2_11 rfl rfl ?_
    refine oX_iload_n dJ8_indexOf_2_12 rfl rfl ?_
    refine oX_aload_n dJ8_indexOf_2_13 rfl rfl ?_
    obtain ⟨r4, g4, hm⟩ := bd_s hm
    refine oX_cVS (as := []) dJ8_indexOf_2_14 rfl (oDS_t ht) rfl ok_J8_length rfl rfl q741 q742 q743 q147 q744 (by decide) (Nat.le_of_ble_eq_true rfl) (t_J8_length t ht g4) ?_
    obtain ⟨r5, g5, hm⟩ := bd_s hm
    refine oX_cS (as := [vR (FR t.1 t.2 0), vI x1, vI x2, vI r4]) dJ8_indexOf_2_17 rfl ok_J9_indexOf rfl rfl q749 q750 q148 q751 (by decide) (Nat.le_of_ble_eq_true rfl) (t_J9_indexOf n (FR t.1 t.2 0) x1 x2 r4 g5) ?_
    refine oX_goto (tgt := 36) dJ8_indexOf_2_20 (by decide) ?_
    obtain rfl := Option.some.inj hm
    exact oX_iret dJ8_indexOf_2_36 rfl rfl hK
theorem t_J8_indexOf_2 {G : OhG} {FI AI : OhI} {FL AL : OhL} {FR GR AR BR : OhQ} {AN : OhN} {C : OhC} (n : Nat) (t : Nat × Nat) (ht : ohKd t.1 = 18 ∨ ohKd t.1 = 130) (x1 : Int32) (x2 : Int32) {o : Int32} (hm : mJ8_indexOf_2 n FI FR AI AN t x1 x2 = some o) : oT G 3 iJ8_indexOf_2 [vR (some t), vI x1, vI x2] (FI, FL, FR, GR, AI, AL, AR, BR, AN, C) (0, 0) (fun v h => v = (some (vI o)) ∧ h = (FI, FL, FR, GR, AI, AL, AR, BR, AN, C)) ohNo :=
  oT_of (by decide) rfl (Nat.le_of_ble_eq_true rfl) (x_mJ8_indexOf_2 n t ht x1 x2 hm ⟨rfl, rfl⟩)
abbrev iJ8_indexOf : OhM := (yJ8_indexOf, cJ8_indexOf, 2, (some .int), [])
theorem ok_J8_indexOf : oOk iJ8_indexOf 1 := ⟨by decide, by decide, by decide +kernel⟩
noncomputable def mJ8_indexOf (n : Nat) (FI : OhI) (FR : OhQ) (AI : OhI) (AN : OhN) (t : Nat × Nat) (x1 : Int32) : Option (Int32) :=
  (mJ8_indexOf_2 n FI FR AI AN t x1 (0 : Int32)).bind fun r1 =>
  some r1
theorem x_mJ8_indexOf {G : OhG} {FI AI : OhI} {FL AL : OhL} {FR GR AR BR : OhQ} {AN : OhN} {C : OhC} {k : Nat × Nat} {Φ : OhP} {Ψ : OhX} (n : Nat) (t : Nat × Nat) (ht : ohKd t.1 = 18 ∨ ohKd t.1 = 130) (x1 : Int32) {r : Int32} (hm : mJ8_indexOf n FI FR AI AN t x1 = some r) (hK : Φ (some (vI r)) (FI, FL, FR, GR, AI, AL, AR, BR, AN, C)) : oX G 4 iJ8_indexOf 0 [(0, vR (some t)), (1, vI x1)] [] (FI, FL, FR, GR, AI, AL, AR, BR, AN, C) k Φ Ψ := by
  unfold mJ8_indexOf at hm
  refine oX_aload_n dJ8_indexOf_0 rfl rfl ?_
  refine oX_iload_n dJ8_indexOf_1 rfl rfl ?_
  refine oX_iconst (v := (0 : Int32)) dJ8_indexOf_2 (by decide) ?_
  obtain ⟨r1, g1, hm⟩ := bd_s hm
  refine oX_cVS (as := [vI x1, vI (0 : Int32)]) dJ8_indexOf_3 rfl (oDS_t ht) rfl ok_J8_indexOf_2 rfl rfl q731 q732 q733 q147 q734 (by decide) (Nat.le_of_ble_eq_true rfl) (t_J8_indexOf_2 n t ht x1 (0 : Int32) g1) ?_
  obtain rfl := Option.some.inj hm
  exact oX_iret dJ8_indexOf_6 rfl rfl hK
theorem t_J8_indexOf {G : OhG} {FI AI : OhI} {FL AL : OhL} {FR GR AR BR : OhQ} {AN : OhN} {C : OhC} (n : Nat) (t : Nat × Nat) (ht : ohKd t.1 = 18 ∨ ohKd t.1 = 130) (x1 : Int32) {o : Int32} (hm : mJ8_indexOf n FI FR AI AN t x1 = some o) : oT G 4 iJ8_indexOf [vR (some t), vI x1] (FI, FL, FR, GR, AI, AL, AR, BR, AN, C) (0, 0) (fun v h => v = (some (vI o)) ∧ h = (FI, FL, FR, GR, AI, AL, AR, BR, AN, C)) ohNo :=
  oT_of (by decide) rfl (Nat.le_of_ble_eq_true rfl) (x_mJ8_indexOf n t ht x1 hm ⟨rfl, rfl⟩)
abbrev iJ12_init : OhM := (yJ12_init, cJ12_init, 2, none, [])
theorem ok_J12_init : oOk iJ12_init 1 := ⟨by decide, by decide, by decide +kernel⟩
noncomputable def mJ12_init (FI : OhI) (GR : OhQ) (AI : OhI) (AN : OhN) (C : OhC) (t : Nat × Nat) (x1 : Int32) : Option ((OhI × OhQ × OhI × OhN × OhC) × (Nat × Nat)) :=
  (if (1 : Int32) = 0 then
  none
else
  gd (¬ x1 < 0 ∧ x1 ≤ 100000) <|
    oLet (sA AI 32 (C 32) (fun _ => 0)) fun AI2 =>
    oLet (sA AN 32 (C 32) x1.toNatClampNeg) fun AN2 =>
    oLet (uA C 32 (C 32 + 1)) fun C2 =>
    oCost (1, x1.toNatClampNeg) <|
    oLet (sA GR t.1 t.2 (uA (GR t.1 t.2) 0 (some (32, C 32)))) fun GR3 =>
    oLet (sA FI t.1 t.2 (uA (FI t.1 t.2) 1 (0 : Int32))) fun FI4 =>
    some ((FI4, GR3, AI2, AN2, C2), (0, 0)))
theorem x_mJ12_init {G : OhG} {FI AI : OhI} {FL AL : OhL} {FR GR AR BR : OhQ} {AN : OhN} {C : OhC} {k : Nat × Nat} {Φ : OhP} {Ψ : OhX} (t : Nat × Nat) (ht : ohKd t.1 = 19) (x1 : Int32) {r : (OhI × OhQ × OhI × OhN × OhC) × (Nat × Nat)} (hm : mJ12_init FI GR AI AN C t x1 = some r) (hK : Φ none (r.1.1, FL, FR, r.1.2.1, r.1.2.2.1, AL, AR, BR, r.1.2.2.2.1, r.1.2.2.2.2)) : oX G 1 iJ12_init 0 [(0, vR (some t)), (1, vI x1)] [] (FI, FL, FR, GR, AI, AL, AR, BR, AN, C) (oPl r.2 k) Φ Ψ := by
  obtain ⟨r, q0⟩ := r
  unfold mJ12_init at hm
  refine oX_aload_n dJ12_init_0 rfl rfl ?_
  refine oX_objInit (a := t) rfl q817 q176 q177 dJ12_init_1 (by decide) (Nat.le_of_ble_eq_true rfl) ?_
  refine oX_getsI (x := 1) (fun _ => List.mem_cons_of_mem _ (List.mem_cons_self)) q818 dJ12_init_4 ?_
  refine oX_if_eq (tgt := 25) dJ12_init_7 (by decide) (fun c1 => ?_) (fun c1 => ?_)
  · have hm := ifp c1 hm
    refine oX_aload_n dJ12_init_25 rfl rfl ?_
    refine oX_iload_n dJ12_init_26 rfl rfl ?_
    cases hm
  · have hm := ifn c1 hm
    refine oX_aload_n dJ12_init_10 rfl rfl ?_
    refine oX_iload_n dJ12_init_11 rfl rfl ?_
    obtain ⟨g2, hm⟩ := gd_s hm
    obtain ⟨AI2, hAI2, hm⟩ := oLs hm
    obtain ⟨AN2, hAN2, hm⟩ := oLs hm
    obtain ⟨C2, hC2, hm⟩ := oLs hm
    refine oX_cost hm (fun qq2 hm => ?_)
    refine oX_newa2 (k := oPl qq2 k) 32 rfl q204 dJ12_init_12 g2.1 g2.2 hAI2 hAN2 hC2 ?_
    obtain ⟨GR3, hGR3, hm⟩ := oLs hm
    refine oX_putG fJ12_15 rfl (fun _ => rfl) (oD_t ht) dJ12_init_14 (by first | exact Or.inl ⟨_, rfl⟩ | exact Or.inr ⟨_, rfl⟩) hGR3 ?_
    refine oX_aload_n dJ12_init_17 rfl rfl ?_
    refine oX_iconst (v := (0 : Int32)) dJ12_init_18 (by decide) ?_
    obtain ⟨FI4, hFI4, hm⟩ := oLs hm
    refine oX_putI fJ12_22 rfl (fun _ => rfl) (oD_t ht) dJ12_init_19 (by decide) hFI4 ?_
    refine oX_goto (tgt := 38) dJ12_init_22 (by decide) ?_
    obtain ⟨rfl, rfl⟩ := oEnd hm
    exact oX_vret dJ12_init_38 rfl hK
theorem t_J12_init {G : OhG} {FI AI : OhI} {FL AL : OhL} {FR GR AR BR : OhQ} {AN : OhN} {C : OhC} (t : Nat × Nat) (ht : ohKd t.1 = 19) (x1 : Int32) {o : (OhI × OhQ × OhI × OhN × OhC) × (Nat × Nat)} (hm : mJ12_init FI GR AI AN C t x1 = some o) : oT G 1 iJ12_init [vR (some t), vI x1] (FI, FL, FR, GR, AI, AL, AR, BR, AN, C) o.2 (fun v h => v = none ∧ h = (o.1.1, FL, FR, o.1.2.1, o.1.2.2.1, AL, AR, BR, o.1.2.2.2.1, o.1.2.2.2.2)) ohNo :=
  oT_of (by decide) rfl (Nat.le_of_ble_eq_true rfl) (x_mJ12_init (k := (0, 0)) t ht x1 hm ⟨rfl, rfl⟩)
abbrev iJ13_init : OhM := (yJ13_init, cJ13_init, 1, none, [])
theorem ok_J13_init : oOk iJ13_init 0 := ⟨by decide, by decide, by decide +kernel⟩
noncomputable def mJ13_init (FI : OhI) (GR : OhQ) (AI : OhI) (AN : OhN) (C : OhC) (t : Nat × Nat) : Option ((OhI × OhQ × OhI × OhN × OhC) × (Nat × Nat)) :=
  (mJ12_init FI GR AI AN C t (16 : Int32)).bind fun r1 =>
  oCost r1.2 <|
  some ((r1.1.1, r1.1.2.1, r1.1.2.2.1, r1.1.2.2.2.1, r1.1.2.2.2.2), (0, 0))
theorem x_mJ13_init {G : OhG} {FI AI : OhI} {FL AL : OhL} {FR GR AR BR : OhQ} {AN : OhN} {C : OhC} {k : Nat × Nat} {Φ : OhP} {Ψ : OhX} (t : Nat × Nat) (ht : ohKd t.1 = 19) {r : (OhI × OhQ × OhI × OhN × OhC) × (Nat × Nat)} (hm : mJ13_init FI GR AI AN C t = some r) (hK : Φ none (r.1.1, FL, FR, r.1.2.1, r.1.2.2.1, AL, AR, BR, r.1.2.2.2.1, r.1.2.2.2.2)) : oX G 2 iJ13_init 0 [(0, vR (some t))] [] (FI, FL, FR, GR, AI, AL, AR, BR, AN, C) (oPl r.2 k) Φ Ψ := by
  obtain ⟨r, q0⟩ := r
  unfold mJ13_init at hm
  refine oX_aload_n dJ13_init_0 rfl rfl ?_
  refine oX_bipush (v := (16 : Int32)) dJ13_init_1 (by decide) ?_
  obtain ⟨r1, g1, hm⟩ := bd_s hm
  refine oX_cost hm (fun qq1 hm => ?_)
  refine oX_cIK (as := [vI (16 : Int32)]) dJ13_init_3 rfl ok_J12_init rfl rfl rfl q814 q815 q151 q816 (by decide) (Nat.le_of_ble_eq_true rfl) (t_J12_init t ht (16 : Int32) g1) (Nat.le_refl _) (Nat.le_refl _) ?_
  obtain ⟨rfl, rfl⟩ := oEnd hm
  exact oX_vret dJ13_init_6 rfl hK
theorem t_J13_init {G : OhG} {FI AI : OhI} {FL AL : OhL} {FR GR AR BR : OhQ} {AN : OhN} {C : OhC} (t : Nat × Nat) (ht : ohKd t.1 = 19) {o : (OhI × OhQ × OhI × OhN × OhC) × (Nat × Nat)} (hm : mJ13_init FI GR AI AN C t = some o) : oT G 2 iJ13_init [vR (some t)] (FI, FL, FR, GR, AI, AL, AR, BR, AN, C) o.2 (fun v h => v = none ∧ h = (o.1.1, FL, FR, o.1.2.1, o.1.2.2.1, AL, AR, BR, o.1.2.2.2.1, o.1.2.2.2.2)) ohNo :=
  oT_of (by decide) rfl (Nat.le_of_ble_eq_true rfl) (x_mJ13_init (k := (0, 0)) t ht hm ⟨rfl, rfl⟩)
abbrev iJ12_ensureCapacityInternal : OhM := (yJ12_ensureCapacityInternal, cJ12_ensureCapacityInternal, 3, none, [])
theorem ok_J12_ensureCapacityInternal : oOk iJ12_ensureCapacityInternal 1 := ⟨by decide, by decide, by decide +kernel⟩
noncomputable def mJ12_ensureCapacityInternal (FI : OhI) (GR : OhQ) (AN : OhN) (t : Nat × Nat) (x1 : Int32) : Option (OhQ) :=
  (oD2 2 (GR t.1 t.2 0)).bind fun a1 =>
  (if (x1 - ((Int32.ofNat (AN a1.1 a1.2)) >>> ((FI t.1 t.2 1) &&& 31))) ≤ 0 then
  some GR
else
  none)
theorem x_mJ12_ensureCapacityInternal {G : OhG} {FI AI : OhI} {FL AL : OhL} {FR GR AR BR : OhQ} {AN : OhN} {C : OhC} {k : Nat × Nat} {Φ : OhP} {Ψ : OhX} (t : Nat × Nat) (ht : ohKd t.1 = 19) (x1 : Int32) {r : OhQ} (hm : mJ12_ensureCapacityInternal FI GR AN t x1 = some r) (hK : Φ none (FI, FL, FR, r, AI, AL, AR, BR, AN, C)) : oX G 1 iJ12_ensureCapacityInternal 0 [(0, vR (some t)), (1, vI x1)] [] (FI, FL, FR, GR, AI, AL, AR, BR, AN, C) k Φ Ψ := by
  unfold mJ12_ensureCapacityInternal at hm
  refine oX_aload_n dJ12_ensureCapacityInternal_0 rfl rfl ?_
  refine oX_getG fJ12_15 rfl (oD_t ht) dJ12_ensureCapacityInternal_1 ?_
  obtain ⟨a1, e1, hm⟩ := bd_s hm
  refine oX_alen2 2 (by decide) e1 dJ12_ensureCapacityInternal_4 ?_
  refine oX_aload_n dJ12_ensureCapacityInternal_5 rfl rfl ?_
  refine oX_getI fJ12_22 rfl (oD_t ht) dJ12_ensureCapacityInternal_6 ?_
  refine oX_ishr dJ12_ensureCapacityInternal_9 ?_
  refine oX_istore_n (ls' := [(2, vI ((Int32.ofNat (AN a1.1 a1.2)) >>> ((FI t.1 t.2 1) &&& 31))), (0, vR (some t)), (1, vI x1)]) dJ12_ensureCapacityInternal_10 rfl (by decide) rfl ?_
  refine oX_iload_n dJ12_ensureCapacityInternal_11 rfl rfl ?_
  refine oX_iload_n dJ12_ensureCapacityInternal_12 rfl rfl ?_
  refine oX_isub dJ12_ensureCapacityInternal_13 ?_
  refine oX_if_le (tgt := 38) dJ12_ensureCapacityInternal_14 (by decide) (fun c2 => ?_) (fun c2 => ?_)
  · have hm := ifp c2 hm
    obtain rfl := Option.some.inj hm
    exact oX_vret dJ12_ensureCapacityInternal_38 rfl hK
  · have hm := ifn c2 hm
    refine oX_aload_n dJ12_ensureCapacityInternal_17 rfl rfl ?_
    refine oX_aload_n dJ12_ensureCapacityInternal_18 rfl rfl ?_
    refine oX_getG fJ12_15 rfl (oD_t ht) dJ12_ensureCapacityInternal_19 ?_
    refine oX_aload_n dJ12_ensureCapacityInternal_22 rfl rfl ?_
    refine oX_iload_n dJ12_ensureCapacityInternal_23 rfl rfl ?_
    cases hm
theorem t_J12_ensureCapacityInternal {G : OhG} {FI AI : OhI} {FL AL : OhL} {FR GR AR BR : OhQ} {AN : OhN} {C : OhC} (t : Nat × Nat) (ht : ohKd t.1 = 19) (x1 : Int32) {o : OhQ} (hm : mJ12_ensureCapacityInternal FI GR AN t x1 = some o) : oT G 1 iJ12_ensureCapacityInternal [vR (some t), vI x1] (FI, FL, FR, GR, AI, AL, AR, BR, AN, C) (0, 0) (fun v h => v = none ∧ h = (FI, FL, FR, o, AI, AL, AR, BR, AN, C)) ohNo :=
  oT_of (by decide) rfl (Nat.le_of_ble_eq_true rfl) (x_mJ12_ensureCapacityInternal t ht x1 hm ⟨rfl, rfl⟩)
abbrev iJ12_isLatin1 : OhM := (yJ12_isLatin1, cJ12_isLatin1, 1, (some .boolean), [])
theorem ok_J12_isLatin1 : oOk iJ12_isLatin1 0 := ⟨by decide, by decide, by decide +kernel⟩
noncomputable def mJ12_isLatin1 (FI : OhI) (t : Nat × Nat) : Option (Int32) :=
  (if (1 : Int32) = 0 then
  some (0 : Int32)
else
  (if (FI t.1 t.2 1) = 0 then
    some (1 : Int32)
  else
    some (0 : Int32)))
theorem x_mJ12_isLatin1 {G : OhG} {FI AI : OhI} {FL AL : OhL} {FR GR AR BR : OhQ} {AN : OhN} {C : OhC} {k : Nat × Nat} {Φ : OhP} {Ψ : OhX} (t : Nat × Nat) (ht : ohKd t.1 = 19) {r : Int32} (hm : mJ12_isLatin1 FI t = some r) (hK : Φ (some (vI r)) (FI, FL, FR, GR, AI, AL, AR, BR, AN, C)) : oX G 1 iJ12_isLatin1 0 [(0, vR (some t))] [] (FI, FL, FR, GR, AI, AL, AR, BR, AN, C) k Φ Ψ := by
  unfold mJ12_isLatin1 at hm
  refine oX_getsI (x := 1) (fun _ => List.mem_cons_of_mem _ (List.mem_cons_self)) q818 dJ12_isLatin1_0 ?_
  refine oX_if_eq (tgt := 17) dJ12_isLatin1_3 (by decide) (fun c1 => ?_) (fun c1 => ?_)
  · have hm := ifp c1 hm
    refine oX_iconst (v := (0 : Int32)) dJ12_isLatin1_17 (by decide) ?_
    obtain rfl := Option.some.inj hm
    exact oX_iret dJ12_isLatin1_18 rfl (by decide) hK
  · have hm := ifn c1 hm
    refine oX_aload_n dJ12_isLatin1_6 rfl rfl ?_
    refine oX_getI fJ12_22 rfl (oD_t ht) dJ12_isLatin1_7 ?_
    refine oX_if_ne (tgt := 17) dJ12_isLatin1_10 (by decide) (fun c2 => ?_) (fun c2 => ?_)
    · have hm := ifp c2 hm
      refine oX_iconst (v := (1 : Int32)) dJ12_isLatin1_13 (by decide) ?_
      refine oX_goto (tgt := 18) dJ12_isLatin1_14 (by decide) ?_
      obtain rfl := Option.some.inj hm
      exact oX_iret dJ12_isLatin1_18 rfl (by decide) hK
    · have hm := ifn c2 hm
      refine oX_iconst (v := (0 : Int32)) dJ12_isLatin1_17 (by decide) ?_
      obtain rfl := Option.some.inj hm
      exact oX_iret dJ12_isLatin1_18 rfl (by decide) hK
theorem t_J12_isLatin1 {G : OhG} {FI AI : OhI} {FL AL : OhL} {FR GR AR BR : OhQ} {AN : OhN} {C : OhC} (t : Nat × Nat) (ht : ohKd t.1 = 19) {o : Int32} (hm : mJ12_isLatin1 FI t = some o) : oT G 1 iJ12_isLatin1 [vR (some t)] (FI, FL, FR, GR, AI, AL, AR, BR, AN, C) (0, 0) (fun v h => v = (some (vI o)) ∧ h = (FI, FL, FR, GR, AI, AL, AR, BR, AN, C)) ohNo :=
  oT_of (by decide) rfl (Nat.le_of_ble_eq_true rfl) (x_mJ12_isLatin1 t ht hm ⟨rfl, rfl⟩)
abbrev iJ9_canEncode_2 : OhM := (yJ9_canEncode_2, cJ9_canEncode_2, 1, (some .boolean), [])
theorem ok_J9_canEncode_2 : oOk iJ9_canEncode_2 1 := ⟨by decide, by decide, by decide +kernel⟩
noncomputable def mJ9_canEncode_2 (x0 : Int32) : Option (Int32) :=
  (if (255 : Int32) < x0 then
  some (0 : Int32)
else
  some (1 : Int32))
theorem x_mJ9_canEncode_2 {G : OhG} {FI AI : OhI} {FL AL : OhL} {FR GR AR BR : OhQ} {AN : OhN} {C : OhC} {k : Nat × Nat} {Φ : OhP} {Ψ : OhX} (x0 : Int32) {r : Int32} (hm : mJ9_canEncode_2 x0 = some r) (hK : Φ (some (vI r)) (FI, FL, FR, GR, AI, AL, AR, BR, AN, C)) : oX G 1 iJ9_canEncode_2 0 [(0, vI x0)] [] (FI, FL, FR, GR, AI, AL, AR, BR, AN, C) k Φ Ψ := by
  unfold mJ9_canEncode_2 at hm
  refine oX_iload_n dJ9_canEncode_2_0 rfl rfl ?_
  refine oX_sipush (v := (255 : Int32)) dJ9_canEncode_2_1 (by decide) ?_
  refine oX_icmp_gt (tgt := 11) dJ9_canEncode_2_4 (by decide) (fun c1 => ?_) (fun c1 => ?_)
  · have hm := ifp c1 hm
    refine oX_iconst (v := (0 : Int32)) dJ9_canEncode_2_11 (by decide) ?_
    obtain rfl := Option.some.inj hm
    exact oX_iret dJ9_canEncode_2_12 rfl (by decide) hK
  · have hm := ifn c1 hm
    refine oX_iconst (v := (1 : Int32)) dJ9_canEncode_2_7 (by decide) ?_
    refine oX_goto (tgt := 12) dJ9_canEncode_2_8 (by decide) ?_
    obtain rfl := Option.some.inj hm
    exact oX_iret dJ9_canEncode_2_12 rfl (by decide) hK
theorem t_J9_canEncode_2 {G : OhG} {FI AI : OhI} {FL AL : OhL} {FR GR AR BR : OhQ} {AN : OhN} {C : OhC} (x0 : Int32) {o : Int32} (hm : mJ9_canEncode_2 x0 = some o) : oT G 1 iJ9_canEncode_2 [vI x0] (FI, FL, FR, GR, AI, AL, AR, BR, AN, C) (0, 0) (fun v h => v = (some (vI o)) ∧ h = (FI, FL, FR, GR, AI, AL, AR, BR, AN, C)) ohNo :=
  oT_of (by decide) rfl (Nat.le_of_ble_eq_true rfl) (x_mJ9_canEncode_2 x0 hm ⟨rfl, rfl⟩)
abbrev iJ12_append : OhM := (yJ12_append, cJ12_append, 2, (some (FieldType.object "java/lang/AbstractStringBuilder")), [])
theorem ok_J12_append : oOk iJ12_append 1 := ⟨by decide, by decide, by decide +kernel⟩
noncomputable def mJ12_append_j56 (FI : OhI) (GR : OhQ) (AI : OhI) (AN : OhN) (t : Nat × Nat) (x1 : Int32) : Option (OhR × OhI × OhQ × OhI) :=
  oLet (sA FI t.1 t.2 (uA (FI t.1 t.2) 3 ((FI t.1 t.2 3) + (1 : Int32)))) fun FI6 =>
  none
theorem x_mJ12_append_j56 {G : OhG} {FI AI : OhI} {FL AL : OhL} {FR GR AR BR : OhQ} {AN : OhN} {C : OhC} {k : Nat × Nat} {Φ : OhP} {Ψ : OhX} (t : Nat × Nat) (ht : ohKd t.1 = 19) (x1 : Int32) {r : OhR × OhI × OhQ × OhI} (hm : mJ12_append_j56 FI GR AI AN t x1 = some r) (hK : Φ (some (vR r.1)) (r.2.1, FL, FR, r.2.2.1, r.2.2.2, AL, AR, BR, AN, C)) : oX G 2 iJ12_append 56 [(0, vR (some t)), (1, vI x1)] [] (FI, FL, FR, GR, AI, AL, AR, BR, AN, C) k Φ Ψ := by
  unfold mJ12_append_j56 at hm
  refine oX_aload_n dJ12_append_56 rfl rfl ?_
  refine oX_getG fJ12_15 rfl (oD_t ht) dJ12_append_57 ?_
  refine oX_aload_n dJ12_append_60 rfl rfl ?_
  refine oX_dup dJ12_append_61 trivial ?_
  refine oX_getI fJ12_79 rfl (oD_t ht) dJ12_append_62 ?_
  refine oX_dup_x1 dJ12_append_65 trivial trivial ?_
  refine oX_iconst (v := (1 : Int32)) dJ12_append_66 (by decide) ?_
  refine oX_iadd dJ12_append_67 ?_
  obtain ⟨FI6, hFI6, hm⟩ := oLs hm
  refine oX_putI fJ12_79 rfl (fun h9 => by cases h9) (oD_t ht) dJ12_append_68 ⟨rfl, rfl⟩ hFI6 ?_
  refine oX_iload_n dJ12_append_71 rfl rfl ?_
  cases hm
noncomputable def mJ12_append_j45 (FI : OhI) (GR : OhQ) (AI : OhI) (AN : OhN) (t : Nat × Nat) (x1 : Int32) : Option (OhR × OhI × OhQ × OhI) :=
  (mJ12_isLatin1 FI t).bind fun r4 =>
  (if r4 = 0 then
  mJ12_append_j56 FI GR AI AN t x1
else
  none)
theorem x_mJ12_append_j45 {G : OhG} {FI AI : OhI} {FL AL : OhL} {FR GR AR BR : OhQ} {AN : OhN} {C : OhC} {k : Nat × Nat} {Φ : OhP} {Ψ : OhX} (t : Nat × Nat) (ht : ohKd t.1 = 19) (x1 : Int32) {r : OhR × OhI × OhQ × OhI} (hm : mJ12_append_j45 FI GR AI AN t x1 = some r) (hK : Φ (some (vR r.1)) (r.2.1, FL, FR, r.2.2.1, r.2.2.2, AL, AR, BR, AN, C)) : oX G 2 iJ12_append 45 [(0, vR (some t)), (1, vI x1)] [] (FI, FL, FR, GR, AI, AL, AR, BR, AN, C) k Φ Ψ := by
  unfold mJ12_append_j45 at hm
  refine oX_aload_n dJ12_append_45 rfl rfl ?_
  obtain ⟨r4, g4, hm⟩ := bd_s hm
  refine oX_cU (as := []) dJ12_append_46 rfl (oD_t ht) rfl (by decide) (by decide) ok_J12_isLatin1 rfl rfl q866 q867 q869 q151 q868 q867 q870 q870 (by decide) (Nat.le_of_ble_eq_true rfl) (t_J12_isLatin1 t ht g4) ?_
  refine oX_if_eq (tgt := 56) dJ12_append_49 (by decide) (fun c5 => ?_) (fun c5 => ?_)
  · have hm := ifp c5 hm
    exact oX_sub [0, 1] rfl (x_mJ12_append_j56 t ht x1 hm hK)
  · have hm := ifn c5 hm
    refine oX_aload_n dJ12_append_52 rfl rfl ?_
    cases hm
noncomputable def mJ12_append (FI : OhI) (GR : OhQ) (AI : OhI) (AN : OhN) (t : Nat × Nat) (x1 : Int32) : Option (OhR × OhI × OhQ × OhI) :=
  (mJ12_ensureCapacityInternal FI GR AN t ((FI t.1 t.2 3) + (1 : Int32))).bind fun r1 =>
  (mJ12_isLatin1 FI t).bind fun r2 =>
  (if r2 = 0 then
  mJ12_append_j45 FI r1 AI AN t x1
else
  (mJ9_canEncode_2 x1).bind fun r7 =>
    (if r7 = 0 then
    mJ12_append_j45 FI r1 AI AN t x1
  else
    oLet (sA FI t.1 t.2 (uA (FI t.1 t.2) 3 ((FI t.1 t.2 3) + (1 : Int32)))) fun FI9 =>
      (oD 102 (r1 t.1 t.2 0)).bind fun a10 =>
      gd (vp_in (FI t.1 t.2 3) (AN a10.1 a10.2)) <|
      oLet (sA AI a10.1 a10.2 (uA (AI a10.1 a10.2) (FI t.1 t.2 3).toNatClampNeg (vp_nar .byte x1.toInt8.toInt32))) fun AI11 =>
      some (some t, FI9, r1, AI11)))
theorem x_mJ12_append {G : OhG} {FI AI : OhI} {FL AL : OhL} {FR GR AR BR : OhQ} {AN : OhN} {C : OhC} {k : Nat × Nat} {Φ : OhP} {Ψ : OhX} (t : Nat × Nat) (ht : ohKd t.1 = 19) (x1 : Int32) {r : OhR × OhI × OhQ × OhI} (hm : mJ12_append FI GR AI AN t x1 = some r) (hK : Φ (some (vR r.1)) (r.2.1, FL, FR, r.2.2.1, r.2.2.2, AL, AR, BR, AN, C)) : oX G 2 iJ12_append 0 [(0, vR (some t)), (1, vI x1)] [] (FI, FL, FR, GR, AI, AL, AR, BR, AN, C) k Φ Ψ := by
  unfold mJ12_append at hm
  refine oX_aload_n dJ12_append_0 rfl rfl ?_
  refine oX_aload_n dJ12_append_1 rfl rfl ?_
  refine oX_getI fJ12_79 rfl (oD_t ht) dJ12_append_2 ?_
  refine oX_iconst (v := (1 : Int32)) dJ12_append_5 (by decide) ?_
  refine oX_iadd dJ12_append_6 ?_
  obtain ⟨r1, g1, hm⟩ := bd_s hm
  refine oX_cU_ (as := [vI ((FI t.1 t.2 3) + (1 : Int32))]) dJ12_append_7 rfl (oD_t ht) rfl (by decide) (by decide) ok_J12_ensureCapacityInternal rfl rfl q846 q848 qsx0 q151 q2455 q848 q849 q849 (by decide) (Nat.le_of_ble_eq_true rfl) (t_J12_ensureCapacityInternal t ht ((FI t.1 t.2 3) + (1 : Int32)) g1) ?_
  refine oX_aload_n dJ12_append_10 rfl rfl ?_
  obtain ⟨r2, g2, hm⟩ := bd_s hm
  refine oX_cU (as := []) dJ12_append_11 rfl (oD_t ht) rfl (by decide) (by decide) ok_J12_isLatin1 rfl rfl q866 q867 q869 q151 q868 q867 q870 q870 (by decide) (Nat.le_of_ble_eq_true rfl) (t_J12_isLatin1 t ht g2) ?_
  refine oX_if_eq (tgt := 45) dJ12_append_14 (by decide) (fun c3 => ?_) (fun c3 => ?_)
  · have hm := ifp c3 hm
    exact oX_sub [0, 1] rfl (x_mJ12_append_j45 t ht x1 hm hK)
  · have hm := ifn c3 hm
    refine oX_iload_n dJ12_append_17 rfl rfl ?_
    obtain ⟨r7, g7, hm⟩ := bd_s hm
    refine oX_cS (as := [vI x1]) dJ12_append_18 rfl ok_J9_canEncode_2 rfl rfl q871 q872 q148 q873 (by decide) (Nat.le_of_ble_eq_true rfl) (t_J9_canEncode_2 x1 g7) ?_
    refine oX_if_eq (tgt := 45) dJ12_append_21 (by decide) (fun c8 => ?_) (fun c8 => ?_)
    · have hm := ifp c8 hm
      exact oX_sub [0, 1] rfl (x_mJ12_append_j45 t ht x1 hm hK)
    · have hm := ifn c8 hm
      refine oX_aload_n dJ12_append_24 rfl rfl ?_
      refine oX_getG fJ12_15 rfl (oD_t ht) dJ12_append_25 ?_
      refine oX_aload_n dJ12_append_28 rfl rfl ?_
      refine oX_dup dJ12_append_29 trivial ?_
      refine oX_getI fJ12_79 rfl (oD_t ht) dJ12_append_30 ?_
      refine oX_dup_x1 dJ12_append_33 trivial trivial ?_
      refine oX_iconst (v := (1 : Int32)) dJ12_append_34 (by decide) ?_
      refine oX_iadd dJ12_append_35 ?_
      obtain ⟨FI9, hFI9, hm⟩ := oLs hm
      refine oX_putI fJ12_79 rfl (fun h9 => by cases h9) (oD_t ht) dJ12_append_36 ⟨rfl, rfl⟩ hFI9 ?_
      refine oX_iload_n dJ12_append_39 rfl rfl ?_
      refine oX_i2b dJ12_append_40 ?_
      obtain ⟨a10, e10, hm⟩ := bd_s hm
      obtain ⟨g11, hm⟩ := gd_s hm
      obtain ⟨AI11, hAI11, hm⟩ := oLs hm
      refine oX_bast e10 g11 dJ12_append_41 hAI11 ?_
      refine oX_goto (tgt := 75) dJ12_append_42 (by decide) ?_
      refine oX_aload_n dJ12_append_75 rfl rfl ?_
      obtain rfl := Option.some.inj hm
      exact oX_aret dJ12_append_76 rfl (by first | exact Or.inl ⟨_, rfl⟩ | exact Or.inr ⟨_, rfl⟩) hK
theorem t_J12_append {G : OhG} {FI AI : OhI} {FL AL : OhL} {FR GR AR BR : OhQ} {AN : OhN} {C : OhC} (t : Nat × Nat) (ht : ohKd t.1 = 19) (x1 : Int32) {o : OhR × OhI × OhQ × OhI} (hm : mJ12_append FI GR AI AN t x1 = some o) : oT G 2 iJ12_append [vR (some t), vI x1] (FI, FL, FR, GR, AI, AL, AR, BR, AN, C) (0, 0) (fun v h => v = (some (vR o.1)) ∧ h = (o.2.1, FL, FR, o.2.2.1, o.2.2.2, AL, AR, BR, AN, C)) ohNo :=
  oT_of (by decide) rfl (Nat.le_of_ble_eq_true rfl) (x_mJ12_append t ht x1 hm ⟨rfl, rfl⟩)
abbrev iJ13_append : OhM := (yJ13_append, cJ13_append, 2, (some (FieldType.object "java/lang/StringBuilder")), [])
theorem ok_J13_append : oOk iJ13_append 1 := ⟨by decide, by decide, by decide +kernel⟩
noncomputable def mJ13_append (FI : OhI) (GR : OhQ) (AI : OhI) (AN : OhN) (t : Nat × Nat) (x1 : Int32) : Option (OhR × OhI × OhQ × OhI) :=
  (mJ12_append FI GR AI AN t x1).bind fun r1 =>
  some (some t, r1.2.1, r1.2.2.1, r1.2.2.2)
theorem x_mJ13_append {G : OhG} {FI AI : OhI} {FL AL : OhL} {FR GR AR BR : OhQ} {AN : OhN} {C : OhC} {k : Nat × Nat} {Φ : OhP} {Ψ : OhX} (t : Nat × Nat) (ht : ohKd t.1 = 19) (x1 : Int32) {r : OhR × OhI × OhQ × OhI} (hm : mJ13_append FI GR AI AN t x1 = some r) (hK : Φ (some (vR r.1)) (r.2.1, FL, FR, r.2.2.1, r.2.2.2, AL, AR, BR, AN, C)) : oX G 3 iJ13_append 0 [(0, vR (some t)), (1, vI x1)] [] (FI, FL, FR, GR, AI, AL, AR, BR, AN, C) k Φ Ψ := by
  unfold mJ13_append at hm
  refine oX_aload_n dJ13_append_0 rfl rfl ?_
  refine oX_iload_n dJ13_append_1 rfl rfl ?_
  obtain ⟨r1, g1, hm⟩ := bd_s hm
  refine oX_cP (as := [vI x1]) dJ13_append_2 rfl ok_J12_append rfl rfl (by decide) (oD_t ht) rfl (by decide) q2454 q838 q843 q844 q151 q845 (by decide) (Nat.le_of_ble_eq_true rfl) (t_J12_append t ht x1 g1) ?_
  refine oX_pop dJ13_append_5 trivial ?_
  refine oX_aload_n dJ13_append_6 rfl rfl ?_
  obtain rfl := Option.some.inj hm
  exact oX_aret dJ13_append_7 rfl (by first | exact Or.inl ⟨_, rfl⟩ | exact Or.inr ⟨_, rfl⟩) hK
theorem t_J13_append {G : OhG} {FI AI : OhI} {FL AL : OhL} {FR GR AR BR : OhQ} {AN : OhN} {C : OhC} (t : Nat × Nat) (ht : ohKd t.1 = 19) (x1 : Int32) {o : OhR × OhI × OhQ × OhI} (hm : mJ13_append FI GR AI AN t x1 = some o) : oT G 3 iJ13_append [vR (some t), vI x1] (FI, FL, FR, GR, AI, AL, AR, BR, AN, C) (0, 0) (fun v h => v = (some (vR o.1)) ∧ h = (o.2.1, FL, FR, o.2.2.1, o.2.2.2, AL, AR, BR, AN, C)) ohNo :=
  oT_of (by decide) rfl (Nat.le_of_ble_eq_true rfl) (x_mJ13_append t ht x1 hm ⟨rfl, rfl⟩)
abbrev iJ12_getValue : OhM := (yJ12_getValue, cJ12_getValue, 1, (some (FieldType.array FieldType.byte)), [])
theorem ok_J12_getValue : oOk iJ12_getValue 0 := ⟨by decide, by decide, by decide +kernel⟩
noncomputable def mJ12_getValue (GR : OhQ) (t : Nat × Nat) : Option (OhR) :=
  some (GR t.1 t.2 0)
theorem x_mJ12_getValue {G : OhG} {FI AI : OhI} {FL AL : OhL} {FR GR AR BR : OhQ} {AN : OhN} {C : OhC} {k : Nat × Nat} {Φ : OhP} {Ψ : OhX} (t : Nat × Nat) (ht : ohKd t.1 = 19) {r : OhR} (hm : mJ12_getValue GR t = some r) (hK : Φ (some (vR r)) (FI, FL, FR, GR, AI, AL, AR, BR, AN, C)) : oX G 1 iJ12_getValue 0 [(0, vR (some t))] [] (FI, FL, FR, GR, AI, AL, AR, BR, AN, C) k Φ Ψ := by
  unfold mJ12_getValue at hm
  refine oX_aload_n dJ12_getValue_0 rfl rfl ?_
  refine oX_getG fJ12_15 rfl (oD_t ht) dJ12_getValue_1 ?_
  obtain rfl := Option.some.inj hm
  exact oX_aret dJ12_getValue_4 rfl (by first | exact Or.inl ⟨_, rfl⟩ | exact Or.inr ⟨_, rfl⟩) hK
theorem t_J12_getValue {G : OhG} {FI AI : OhI} {FL AL : OhL} {FR GR AR BR : OhQ} {AN : OhN} {C : OhC} (t : Nat × Nat) (ht : ohKd t.1 = 19) {o : OhR} (hm : mJ12_getValue GR t = some o) : oT G 1 iJ12_getValue [vR (some t)] (FI, FL, FR, GR, AI, AL, AR, BR, AN, C) (0, 0) (fun v h => v = (some (vR o)) ∧ h = (FI, FL, FR, GR, AI, AL, AR, BR, AN, C)) ohNo :=
  oT_of (by decide) rfl (Nat.le_of_ble_eq_true rfl) (x_mJ12_getValue t ht hm ⟨rfl, rfl⟩)
abbrev iJ12_length : OhM := (yJ12_length, cJ12_length, 1, (some .int), [])
theorem ok_J12_length : oOk iJ12_length 0 := ⟨by decide, by decide, by decide +kernel⟩
noncomputable def mJ12_length (FI : OhI) (t : Nat × Nat) : Option (Int32) :=
  some (FI t.1 t.2 3)
theorem x_mJ12_length {G : OhG} {FI AI : OhI} {FL AL : OhL} {FR GR AR BR : OhQ} {AN : OhN} {C : OhC} {k : Nat × Nat} {Φ : OhP} {Ψ : OhX} (t : Nat × Nat) (ht : ohKd t.1 = 19) {r : Int32} (hm : mJ12_length FI t = some r) (hK : Φ (some (vI r)) (FI, FL, FR, GR, AI, AL, AR, BR, AN, C)) : oX G 1 iJ12_length 0 [(0, vR (some t))] [] (FI, FL, FR, GR, AI, AL, AR, BR, AN, C) k Φ Ψ := by
  unfold mJ12_length at hm
  refine oX_aload_n dJ12_length_0 rfl rfl ?_
  refine oX_getI fJ12_79 rfl (oD_t ht) dJ12_length_1 ?_
  obtain rfl := Option.some.inj hm
  exact oX_iret dJ12_length_4 rfl rfl hK
theorem t_J12_length {G : OhG} {FI AI : OhI} {FL AL : OhL} {FR GR AR BR : OhQ} {AN : OhN} {C : OhC} (t : Nat × Nat) (ht : ohKd t.1 = 19) {o : Int32} (hm : mJ12_length FI t = some o) : oT G 1 iJ12_length [vR (some t)] (FI, FL, FR, GR, AI, AL, AR, BR, AN, C) (0, 0) (fun v h => v = (some (vI o)) ∧ h = (FI, FL, FR, GR, AI, AL, AR, BR, AN, C)) ohNo :=
  oT_of (by decide) rfl (Nat.le_of_ble_eq_true rfl) (x_mJ12_length t ht hm ⟨rfl, rfl⟩)
abbrev iJ13_length : OhM := (yJ13_length, cJ13_length, 1, (some .int), [])
theorem ok_J13_length : oOk iJ13_length 0 := ⟨by decide, by decide, by decide +kernel⟩
noncomputable def mJ13_length (FI : OhI) (t : Nat × Nat) : Option (Int32) :=
  (mJ12_length FI t).bind fun r1 =>
  some r1
theorem x_mJ13_length {G : OhG} {FI AI : OhI} {FL AL : OhL} {FR GR AR BR : OhQ} {AN : OhN} {C : OhC} {k : Nat × Nat} {Φ : OhP} {Ψ : OhX} (t : Nat × Nat) (ht : ohKd t.1 = 19) {r : Int32} (hm : mJ13_length FI t = some r) (hK : Φ (some (vI r)) (FI, FL, FR, GR, AI, AL, AR, BR, AN, C)) : oX G 2 iJ13_length 0 [(0, vR (some t))] [] (FI, FL, FR, GR, AI, AL, AR, BR, AN, C) k Φ Ψ := by
  unfold mJ13_length at hm
  refine oX_aload_n dJ13_length_0 rfl rfl ?_
  obtain ⟨r1, g1, hm⟩ := bd_s hm
  refine oX_cP (as := []) dJ13_length_1 rfl ok_J12_length rfl rfl (by decide) (oD_t ht) rfl (by decide) q926 q838 q930 q925 q151 q931 (by decide) (Nat.le_of_ble_eq_true rfl) (t_J12_length t ht g1) ?_
  obtain rfl := Option.some.inj hm
  exact oX_iret dJ13_length_4 rfl rfl hK
theorem t_J13_length {G : OhG} {FI AI : OhI} {FL AL : OhL} {FR GR AR BR : OhQ} {AN : OhN} {C : OhC} (t : Nat × Nat) (ht : ohKd t.1 = 19) {o : Int32} (hm : mJ13_length FI t = some o) : oT G 2 iJ13_length [vR (some t)] (FI, FL, FR, GR, AI, AL, AR, BR, AN, C) (0, 0) (fun v h => v = (some (vI o)) ∧ h = (FI, FL, FR, GR, AI, AL, AR, BR, AN, C)) ohNo :=
  oT_of (by decide) rfl (Nat.le_of_ble_eq_true rfl) (x_mJ13_length t ht hm ⟨rfl, rfl⟩)
abbrev iJ5_checkLength : OhM := (yJ5_checkLength, cJ5_checkLength, 2, none, [])
theorem ok_J5_checkLength : oOk iJ5_checkLength 2 := ⟨by decide, by decide, by decide +kernel⟩
noncomputable def mJ5_checkLength (x0 : Int32) (x1 : Int32) : Option (Unit) :=
  (if x0 ≤ x1 then
  some ()
else
  none)
theorem x_mJ5_checkLength {G : OhG} {FI AI : OhI} {FL AL : OhL} {FR GR AR BR : OhQ} {AN : OhN} {C : OhC} {k : Nat × Nat} {Φ : OhP} {Ψ : OhX} (x0 : Int32) (x1 : Int32) {r : Unit} (hm : mJ5_checkLength x0 x1 = some r) (hK : Φ none (FI, FL, FR, GR, AI, AL, AR, BR, AN, C)) : oX G 1 iJ5_checkLength 0 [(0, vI x0), (1, vI x1)] [] (FI, FL, FR, GR, AI, AL, AR, BR, AN, C) k Φ Ψ := by
  unfold mJ5_checkLength at hm
  refine oX_iload_n dJ5_checkLength_0 rfl rfl ?_
  refine oX_iload_n dJ5_checkLength_1 rfl rfl ?_
  refine oX_icmp_ge (tgt := 37) dJ5_checkLength_2 (by decide) (fun c1 => ?_) (fun c1 => ?_)
  · have hm := ifp c1 hm
    obtain rfl := Option.some.inj hm
    exact oX_vret dJ5_checkLength_37 rfl hK
  · have hm := ifn c1 hm
    cases hm
theorem t_J5_checkLength {G : OhG} {FI AI : OhI} {FL AL : OhL} {FR GR AR BR : OhQ} {AN : OhN} {C : OhC} (x0 : Int32) (x1 : Int32) {o : Unit} (hm : mJ5_checkLength x0 x1 = some o) : oT G 1 iJ5_checkLength [vI x0, vI x1] (FI, FL, FR, GR, AI, AL, AR, BR, AN, C) (0, 0) (fun v h => v = none ∧ h = (FI, FL, FR, GR, AI, AL, AR, BR, AN, C)) ohNo :=
  oT_of (by decide) rfl (Nat.le_of_ble_eq_true rfl) (x_mJ5_checkLength x0 x1 hm ⟨rfl, rfl⟩)
abbrev iJ5_copyOfRangeByte : OhM := (yJ5_copyOfRangeByte, cJ5_copyOfRangeByte, 5, (some (FieldType.array FieldType.byte)), [])
theorem ok_J5_copyOfRangeByte : oOk iJ5_copyOfRangeByte 3 := ⟨by decide, by decide, by decide +kernel⟩
noncomputable def mJ5_copyOfRangeByte (AI : OhI) (AN : OhN) (C : OhC) (x0 : OhR) (x1 : Int32) (x2 : Int32) : Option ((OhR × OhI × OhN × OhC) × (Nat × Nat)) :=
  (mJ5_checkLength x1 x2).bind fun r1 =>
  gd (¬ (x2 - x1) < 0 ∧ (x2 - x1) ≤ 100000) <|
  oLet (sA AI 36 (C 36) (fun _ => 0)) fun AI2 =>
  oLet (sA AN 36 (C 36) (x2 - x1).toNatClampNeg) fun AN2 =>
  oLet (uA C 36 (C 36 + 1)) fun C2 =>
  oCost (1, (x2 - x1).toNatClampNeg) <|
  (oD2 2 x0).bind fun a3 =>
  (mJ3_min ((Int32.ofNat (AN2 a3.1 a3.2)) - x1) (x2 - x1)).bind fun r4 =>
  (oD 102 x0).bind fun a5 =>
  gd ((¬ x1 < 0 ∧ ¬ (0 : Int32) < 0 ∧ ¬ r4 < 0) ∧ x1.toNatClampNeg + r4.toNatClampNeg ≤ AN2 a5.1 a5.2 ∧ (0 : Int32).toNatClampNeg + r4.toNatClampNeg ≤ AN2 36 (C 36) ∧ (∀ i : Nat, i < r4.toNatClampNeg → fits .byte (.int (AI2 a5.1 a5.2 (x1.toNatClampNeg + i))) = true)) <|
  oLet (sA AI2 36 (C 36) (va_cpy (AI2 a5.1 a5.2) (AI2 36 (C 36)) x1.toNatClampNeg (0 : Int32).toNatClampNeg r4.toNatClampNeg)) fun AI6 =>
  some ((some (36, C 36), AI6, AN2, C2), (0, 0))
theorem x_mJ5_copyOfRangeByte {G : OhG} {FI AI : OhI} {FL AL : OhL} {FR GR AR BR : OhQ} {AN : OhN} {C : OhC} {k : Nat × Nat} {Φ : OhP} {Ψ : OhX} (x0 : OhR) (x1 : Int32) (x2 : Int32) {r : (OhR × OhI × OhN × OhC) × (Nat × Nat)} (hm : mJ5_copyOfRangeByte AI AN C x0 x1 x2 = some r) (hK : Φ (some (vR r.1.1)) (FI, FL, FR, GR, r.1.2.1, AL, AR, BR, r.1.2.2.1, r.1.2.2.2)) : oX G 2 iJ5_copyOfRangeByte 0 [(0, vR x0), (1, vI x1), (2, vI x2)] [] (FI, FL, FR, GR, AI, AL, AR, BR, AN, C) (oPl r.2 k) Φ Ψ := by
  obtain ⟨r, q0⟩ := r
  unfold mJ5_copyOfRangeByte at hm
  refine oX_iload_n dJ5_copyOfRangeByte_0 rfl rfl ?_
  refine oX_iload_n dJ5_copyOfRangeByte_1 rfl rfl ?_
  obtain ⟨r1, g1, hm⟩ := bd_s hm
  refine oX_cS_ (as := [vI x1, vI x2]) dJ5_copyOfRangeByte_2 rfl ok_J5_checkLength rfl rfl q939 q940 q140 q941 (by decide) (Nat.le_of_ble_eq_true rfl) (t_J5_checkLength x1 x2 g1) ?_
  refine oX_iload_n dJ5_copyOfRangeByte_5 rfl rfl ?_
  refine oX_iload_n dJ5_copyOfRangeByte_6 rfl rfl ?_
  refine oX_isub dJ5_copyOfRangeByte_7 ?_
  refine oX_istore_n (ls' := [(3, vI (x2 - x1)), (0, vR x0), (1, vI x1), (2, vI x2)]) dJ5_copyOfRangeByte_8 rfl (by decide) rfl ?_
  refine oX_iload_n dJ5_copyOfRangeByte_9 rfl rfl ?_
  obtain ⟨g2, hm⟩ := gd_s hm
  obtain ⟨AI2, hAI2, hm⟩ := oLs hm
  obtain ⟨AN2, hAN2, hm⟩ := oLs hm
  obtain ⟨C2, hC2, hm⟩ := oLs hm
  refine oX_cost hm (fun qq2 hm => ?_)
  refine oX_newa2 (k := oPl qq2 k) 36 rfl q204 dJ5_copyOfRangeByte_10 g2.1 g2.2 hAI2 hAN2 hC2 ?_
  refine oX_astore (ls' := [(4, vR (some (36, C 36))), (3, vI (x2 - x1)), (0, vR x0), (1, vI x1), (2, vI x2)]) dJ5_copyOfRangeByte_12 (by decide) rfl ?_
  refine oX_aload_n dJ5_copyOfRangeByte_14 rfl rfl ?_
  refine oX_iload_n dJ5_copyOfRangeByte_15 rfl rfl ?_
  refine oX_aload dJ5_copyOfRangeByte_16 rfl ?_
  refine oX_iconst (v := (0 : Int32)) dJ5_copyOfRangeByte_18 (by decide) ?_
  refine oX_aload_n dJ5_copyOfRangeByte_19 rfl rfl ?_
  obtain ⟨a3, e3, hm⟩ := bd_s hm
  refine oX_alen2 2 (by decide) e3 dJ5_copyOfRangeByte_20 ?_
  refine oX_iload_n dJ5_copyOfRangeByte_21 rfl rfl ?_
  refine oX_isub dJ5_copyOfRangeByte_22 ?_
  refine oX_iload_n dJ5_copyOfRangeByte_23 rfl rfl ?_
  obtain ⟨r4, g4, hm⟩ := bd_s hm
  refine oX_cS (as := [vI ((Int32.ofNat (AN2 a3.1 a3.2)) - x1), vI (x2 - x1)]) dJ5_copyOfRangeByte_24 rfl ok_J3_min rfl rfl q555 q232 q134 q233 (by decide) (Nat.le_of_ble_eq_true rfl) (t_J3_min ((Int32.ofNat (AN2 a3.1 a3.2)) - x1) (x2 - x1) g4) ?_
  obtain ⟨a5, e5, hm⟩ := bd_s hm
  obtain ⟨g6, hm⟩ := gd_s hm
  obtain ⟨AI6, hAI6, hm⟩ := oLs hm
  refine oX_copyB e5 oDs36 g6.1.1 g6.1.2.1 g6.1.2.2 g6.2.1 g6.2.2.1 g6.2.2.2 q556 q558 q557 q141 dJ5_copyOfRangeByte_27 (by decide) (Nat.le_of_ble_eq_true rfl) hAI6 ?_
  refine oX_aload dJ5_copyOfRangeByte_30 rfl ?_
  obtain ⟨rfl, rfl⟩ := oEnd hm
  exact oX_aret dJ5_copyOfRangeByte_32 rfl (by first | exact Or.inl ⟨_, rfl⟩ | exact Or.inr ⟨_, rfl⟩) hK
theorem t_J5_copyOfRangeByte {G : OhG} {FI AI : OhI} {FL AL : OhL} {FR GR AR BR : OhQ} {AN : OhN} {C : OhC} (x0 : OhR) (x1 : Int32) (x2 : Int32) {o : (OhR × OhI × OhN × OhC) × (Nat × Nat)} (hm : mJ5_copyOfRangeByte AI AN C x0 x1 x2 = some o) : oT G 2 iJ5_copyOfRangeByte [vR x0, vI x1, vI x2] (FI, FL, FR, GR, AI, AL, AR, BR, AN, C) o.2 (fun v h => v = (some (vR o.1.1)) ∧ h = (FI, FL, FR, GR, o.1.2.1, AL, AR, BR, o.1.2.2.1, o.1.2.2.2)) ohNo :=
  oT_of (by decide) rfl (Nat.le_of_ble_eq_true rfl) (x_mJ5_copyOfRangeByte (k := (0, 0)) x0 x1 x2 hm ⟨rfl, rfl⟩)
abbrev iJ5_copyOfRange : OhM := (yJ5_copyOfRange, cJ5_copyOfRange, 3, (some (FieldType.array FieldType.byte)), [])
theorem ok_J5_copyOfRange : oOk iJ5_copyOfRange 3 := ⟨by decide, by decide, by decide +kernel⟩
noncomputable def mJ5_copyOfRange_j10 (AI : OhI) (AN : OhN) (C : OhC) (x0 : OhR) (x1 : Int32) (x2 : Int32) : Option ((OhR × OhI × OhN × OhC) × (Nat × Nat)) :=
  (mJ5_copyOfRangeByte AI AN C x0 x1 x2).bind fun r4 =>
  oCost r4.2 <|
  some ((r4.1.1, r4.1.2.1, r4.1.2.2.1, r4.1.2.2.2), (0, 0))
theorem x_mJ5_copyOfRange_j10 {G : OhG} {FI AI : OhI} {FL AL : OhL} {FR GR AR BR : OhQ} {AN : OhN} {C : OhC} {k : Nat × Nat} {Φ : OhP} {Ψ : OhX} (x0 : OhR) (x1 : Int32) (x2 : Int32) {r : (OhR × OhI × OhN × OhC) × (Nat × Nat)} (hm : mJ5_copyOfRange_j10 AI AN C x0 x1 x2 = some r) (hK : Φ (some (vR r.1.1)) (FI, FL, FR, GR, r.1.2.1, AL, AR, BR, r.1.2.2.1, r.1.2.2.2)) : oX G 3 iJ5_copyOfRange 10 [(0, vR x0), (1, vI x1), (2, vI x2)] [] (FI, FL, FR, GR, AI, AL, AR, BR, AN, C) (oPl r.2 k) Φ Ψ := by
  obtain ⟨r, q0⟩ := r
  unfold mJ5_copyOfRange_j10 at hm
  refine oX_aload_n dJ5_copyOfRange_10 rfl rfl ?_
  refine oX_iload_n dJ5_copyOfRange_11 rfl rfl ?_
  refine oX_iload_n dJ5_copyOfRange_12 rfl rfl ?_
  obtain ⟨r4, g4, hm⟩ := bd_s hm
  refine oX_cost hm (fun qq4 hm => ?_)
  refine oX_cSK (as := [vR x0, vI x1, vI x2]) dJ5_copyOfRange_13 rfl ok_J5_copyOfRangeByte rfl rfl q936 q937 q140 q938 (by decide) (Nat.le_of_ble_eq_true rfl) (t_J5_copyOfRangeByte x0 x1 x2 g4) (Nat.le_refl _) (Nat.le_refl _) ?_
  obtain ⟨rfl, rfl⟩ := oEnd hm
  exact oX_aret dJ5_copyOfRange_16 rfl (by first | exact Or.inl ⟨_, rfl⟩ | exact Or.inr ⟨_, rfl⟩) hK
noncomputable def mJ5_copyOfRange (AI : OhI) (AN : OhN) (C : OhC) (x0 : OhR) (x1 : Int32) (x2 : Int32) : Option ((OhR × OhI × OhN × OhC) × (Nat × Nat)) :=
  (if x1 = 0 then
  (oD2 2 x0).bind fun a2 =>
    (if x2 = (Int32.ofNat (AN a2.1 a2.2)) then
    none
  else
    mJ5_copyOfRange_j10 AI AN C x0 x1 x2)
else
  mJ5_copyOfRange_j10 AI AN C x0 x1 x2)
theorem x_mJ5_copyOfRange {G : OhG} {FI AI : OhI} {FL AL : OhL} {FR GR AR BR : OhQ} {AN : OhN} {C : OhC} {k : Nat × Nat} {Φ : OhP} {Ψ : OhX} (x0 : OhR) (x1 : Int32) (x2 : Int32) {r : (OhR × OhI × OhN × OhC) × (Nat × Nat)} (hm : mJ5_copyOfRange AI AN C x0 x1 x2 = some r) (hK : Φ (some (vR r.1.1)) (FI, FL, FR, GR, r.1.2.1, AL, AR, BR, r.1.2.2.1, r.1.2.2.2)) : oX G 3 iJ5_copyOfRange 0 [(0, vR x0), (1, vI x1), (2, vI x2)] [] (FI, FL, FR, GR, AI, AL, AR, BR, AN, C) (oPl r.2 k) Φ Ψ := by
  obtain ⟨r, q0⟩ := r
  unfold mJ5_copyOfRange at hm
  refine oX_iload_n dJ5_copyOfRange_0 rfl rfl ?_
  refine oX_if_ne (tgt := 10) dJ5_copyOfRange_1 (by decide) (fun c1 => ?_) (fun c1 => ?_)
  · have hm := ifp c1 hm
    refine oX_iload_n dJ5_copyOfRange_4 rfl rfl ?_
    refine oX_aload_n dJ5_copyOfRange_5 rfl rfl ?_
    obtain ⟨a2, e2, hm⟩ := bd_s hm
    refine oX_alen2 2 (by decide) e2 dJ5_copyOfRange_6 ?_
    refine oX_icmp_eq (tgt := 17) dJ5_copyOfRange_7 (by decide) (fun c3 => ?_) (fun c3 => ?_)
    · have hm := ifp c3 hm
      refine oX_aload_n dJ5_copyOfRange_17 rfl rfl ?_
      cases hm
    · have hm := ifn c3 hm
      exact oX_sub [0, 1, 2] rfl (x_mJ5_copyOfRange_j10 x0 x1 x2 hm hK)
  · have hm := ifn c1 hm
    exact oX_sub [0, 1, 2] rfl (x_mJ5_copyOfRange_j10 x0 x1 x2 hm hK)
theorem t_J5_copyOfRange {G : OhG} {FI AI : OhI} {FL AL : OhL} {FR GR AR BR : OhQ} {AN : OhN} {C : OhC} (x0 : OhR) (x1 : Int32) (x2 : Int32) {o : (OhR × OhI × OhN × OhC) × (Nat × Nat)} (hm : mJ5_copyOfRange AI AN C x0 x1 x2 = some o) : oT G 3 iJ5_copyOfRange [vR x0, vI x1, vI x2] (FI, FL, FR, GR, AI, AL, AR, BR, AN, C) o.2 (fun v h => v = (some (vR o.1.1)) ∧ h = (FI, FL, FR, GR, o.1.2.1, AL, AR, BR, o.1.2.2.1, o.1.2.2.2)) ohNo :=
  oT_of (by decide) rfl (Nat.le_of_ble_eq_true rfl) (x_mJ5_copyOfRange (k := (0, 0)) x0 x1 x2 hm ⟨rfl, rfl⟩)
abbrev iJ8_init_2 : OhM := (yJ8_init_2, cJ8_init_2, 5, none, [])
theorem ok_J8_init_2 : oOk iJ8_init_2 2 := ⟨by decide, by decide, by decide +kernel⟩
noncomputable def mJ8_init_2_j79 (FI : OhI) (FR : OhQ) (GR : OhQ) (AI : OhI) (AN : OhN) (C : OhC) (t : Nat × Nat) (x3 : OhR) (x4 : Int32) : Option ((OhI × OhQ × OhI × OhN × OhC) × (Nat × Nat)) :=
  oLet (sA FI t.1 t.2 (uA (FI t.1 t.2) 1 (1 : Int32))) fun FI7 =>
  (mJ5_copyOfRange AI AN C x3 (0 : Int32) (x4 <<< ((1 : Int32) &&& 31))).bind fun r8 =>
  oCost r8.2 <|
  oLet (sA FR t.1 t.2 (uA (FR t.1 t.2) 0 r8.1.1)) fun FR9 =>
  some ((FI7, FR9, r8.1.2.1, r8.1.2.2.1, r8.1.2.2.2), (0, 0))
theorem x_mJ8_init_2_j79 {G : OhG} {FI AI : OhI} {FL AL : OhL} {FR GR AR BR : OhQ} {AN : OhN} {C : OhC} {k : Nat × Nat} {Φ : OhP} {Ψ : OhX} (t : Nat × Nat) (ht : ohKd t.1 = 18) (x3 : OhR) (x4 : Int32) {r : (OhI × OhQ × OhI × OhN × OhC) × (Nat × Nat)} (hm : mJ8_init_2_j79 FI FR GR AI AN C t x3 x4 = some r) (hK : Φ none (r.1.1, FL, r.1.2.1, GR, r.1.2.2.1, AL, AR, BR, r.1.2.2.2.1, r.1.2.2.2.2)) : oX G 4 iJ8_init_2 79 [(0, vR (some t)), (3, vR x3), (4, vI x4)] [] (FI, FL, FR, GR, AI, AL, AR, BR, AN, C) (oPl r.2 k) Φ Ψ := by
  obtain ⟨r, q0⟩ := r
  unfold mJ8_init_2_j79 at hm
  refine oX_aload_n dJ8_init_2_79 rfl rfl ?_
  refine oX_iconst (v := (1 : Int32)) dJ8_init_2_80 (by decide) ?_
  obtain ⟨FI7, hFI7, hm⟩ := oLs hm
  refine oX_putI fJ8_15 rfl (fun _ => rfl) (oD_t ht) dJ8_init_2_81 (by decide) hFI7 ?_
  refine oX_aload_n dJ8_init_2_84 rfl rfl ?_
  refine oX_aload_n dJ8_init_2_85 rfl rfl ?_
  refine oX_iconst (v := (0 : Int32)) dJ8_init_2_86 (by decide) ?_
  refine oX_iload dJ8_init_2_87 rfl ?_
  refine oX_iconst (v := (1 : Int32)) dJ8_init_2_89 (by decide) ?_
  refine oX_ishl dJ8_init_2_90 ?_
  obtain ⟨r8, g8, hm⟩ := bd_s hm
  refine oX_cost hm (fun qq8 hm => ?_)
  refine oX_cSK (as := [vR x3, vI (0 : Int32), vI (x4 <<< ((1 : Int32) &&& 31))]) dJ8_init_2_91 rfl ok_J5_copyOfRange rfl rfl q933 q934 q140 q935 (by decide) (Nat.le_of_ble_eq_true rfl) (t_J5_copyOfRange x3 (0 : Int32) (x4 <<< ((1 : Int32) &&& 31)) g8) (Nat.le_refl _) (Nat.le_refl _) ?_
  obtain ⟨FR9, hFR9, hm⟩ := oLs hm
  refine oX_putF fJ8_9 rfl (fun _ => rfl) (oD_t ht) dJ8_init_2_94 (by first | exact Or.inl ⟨_, rfl⟩ | exact Or.inr ⟨_, rfl⟩) hFR9 ?_
  obtain ⟨rfl, rfl⟩ := oEnd hm
  exact oX_vret dJ8_init_2_97 rfl hK
noncomputable def mJ8_init_2 (FI : OhI) (FR : OhQ) (GR : OhQ) (AI : OhI) (AN : OhN) (C : OhC) (t : Nat × Nat) (x1 : OhR) (x2 : OhR) : Option ((OhI × OhQ × OhI × OhN × OhC) × (Nat × Nat)) :=
  (oD 19 x1).bind fun a1 =>
  (mJ12_getValue GR a1).bind fun r2 =>
  (mJ13_length FI a1).bind fun r3 =>
  (mJ12_isLatin1 FI a1).bind fun r4 =>
  (if r4 = 0 then
  (if (1 : Int32) = 0 then
    mJ8_init_2_j79 FI FR GR AI AN C t r2 r3
  else
    (if (FI a1.1 a1.2 2) = 0 then
      mJ8_init_2_j79 FI FR GR AI AN C t r2 r3
    else
      none))
else
  oLet (sA FI t.1 t.2 (uA (FI t.1 t.2) 1 (0 : Int32))) fun FI11 =>
    (mJ5_copyOfRange AI AN C r2 (0 : Int32) r3).bind fun r12 =>
    oCost r12.2 <|
    oLet (sA FR t.1 t.2 (uA (FR t.1 t.2) 0 r12.1.1)) fun FR13 =>
    some ((FI11, FR13, r12.1.2.1, r12.1.2.2.1, r12.1.2.2.2), (0, 0)))
theorem x_mJ8_init_2 {G : OhG} {FI AI : OhI} {FL AL : OhL} {FR GR AR BR : OhQ} {AN : OhN} {C : OhC} {k : Nat × Nat} {Φ : OhP} {Ψ : OhX} (t : Nat × Nat) (ht : ohKd t.1 = 18) (x1 : OhR) (x2 : OhR) {r : (OhI × OhQ × OhI × OhN × OhC) × (Nat × Nat)} (hm : mJ8_init_2 FI FR GR AI AN C t x1 x2 = some r) (hK : Φ none (r.1.1, FL, r.1.2.1, GR, r.1.2.2.1, AL, AR, BR, r.1.2.2.2.1, r.1.2.2.2.2)) : oX G 4 iJ8_init_2 0 [(0, vR (some t)), (1, vR x1), (2, vR x2)] [] (FI, FL, FR, GR, AI, AL, AR, BR, AN, C) (oPl r.2 k) Φ Ψ := by
  obtain ⟨r, q0⟩ := r
  unfold mJ8_init_2 at hm
  refine oX_aload_n dJ8_init_2_0 rfl rfl ?_
  refine oX_objInit (a := t) rfl q918 q176 q177 dJ8_init_2_1 (by decide) (Nat.le_of_ble_eq_true rfl) ?_
  refine oX_aload_n dJ8_init_2_4 rfl rfl ?_
  obtain ⟨a1, e1, hm⟩ := bd_s hm
  obtain ⟨r2, g2, hm⟩ := bd_s hm
  refine oX_cU (as := []) dJ8_init_2_5 rfl e1 rfl (by decide) (by decide) ok_J12_getValue rfl rfl q919 q920 q922 q151 q921 q920 q923 q923 (by decide) (Nat.le_of_ble_eq_true rfl) (t_J12_getValue a1 ((oD_some e1).2) g2) ?_
  refine oX_astore_n (ls' := [(3, vR r2), (0, vR (some t)), (1, vR x1), (2, vR x2)]) dJ8_init_2_8 rfl (by decide) rfl ?_
  refine oX_aload_n dJ8_init_2_9 rfl rfl ?_
  obtain ⟨r3, g3, hm⟩ := bd_s hm
  refine oX_cU (as := []) dJ8_init_2_10 rfl e1 rfl (by decide) (by decide) ok_J13_length rfl rfl q924 q928 q927 q152 q926 q925 q931 q929 (by decide) (Nat.le_of_ble_eq_true rfl) (t_J13_length a1 ((oD_some e1).2) g3) ?_
  refine oX_istore (ls' := [(4, vI r3), (3, vR r2), (0, vR (some t)), (1, vR x1), (2, vR x2)]) dJ8_init_2_13 (by decide) rfl ?_
  refine oX_aload_n dJ8_init_2_15 rfl rfl ?_
  obtain ⟨r4, g4, hm⟩ := bd_s hm
  refine oX_cU (as := []) dJ8_init_2_16 rfl e1 rfl (by decide) (by decide) ok_J12_isLatin1 rfl rfl q932 q867 q869 q151 q868 q867 q870 q870 (by decide) (Nat.le_of_ble_eq_true rfl) (t_J12_isLatin1 a1 ((oD_some e1).2) g4) ?_
  refine oX_if_eq (tgt := 41) dJ8_init_2_19 (by decide) (fun c5 => ?_) (fun c5 => ?_)
  · have hm := ifp c5 hm
    refine oX_getsI (x := 1) (fun _ => List.mem_cons_of_mem _ (List.mem_cons_self)) q739 dJ8_init_2_41 ?_
    refine oX_if_eq (tgt := 79) dJ8_init_2_44 (by decide) (fun c6 => ?_) (fun c6 => ?_)
    · have hm := ifp c6 hm
      exact oX_sub [2, 1, 0] rfl (x_mJ8_init_2_j79 t ht r2 r3 hm hK)
    · have hm := ifn c6 hm
      refine oX_aload_n dJ8_init_2_47 rfl rfl ?_
      refine oX_getI fJ8_1048 rfl e1 dJ8_init_2_48 ?_
      refine oX_if_eq (tgt := 79) dJ8_init_2_51 (by decide) (fun c10 => ?_) (fun c10 => ?_)
      · have hm := ifp c10 hm
        exact oX_sub [2, 1, 0] rfl (x_mJ8_init_2_j79 t ht r2 r3 hm hK)
      · have hm := ifn c10 hm
        refine oX_aload_n dJ8_init_2_54 rfl rfl ?_
        refine oX_aload_n dJ8_init_2_55 rfl rfl ?_
        refine oX_iconst (v := (0 : Int32)) dJ8_init_2_56 (by decide) ?_
        refine oX_iload dJ8_init_2_57 rfl ?_
        cases hm
  · have hm := ifn c5 hm
    refine oX_aload_n dJ8_init_2_22 rfl rfl ?_
    refine oX_iconst (v := (0 : Int32)) dJ8_init_2_23 (by decide) ?_
    obtain ⟨FI11, hFI11, hm⟩ := oLs hm
    refine oX_putI fJ8_15 rfl (fun _ => rfl) (oD_t ht) dJ8_init_2_24 (by decide) hFI11 ?_
    refine oX_aload_n dJ8_init_2_27 rfl rfl ?_
    refine oX_aload_n dJ8_init_2_28 rfl rfl ?_
    refine oX_iconst (v := (0 : Int32)) dJ8_init_2_29 (by decide) ?_
    refine oX_iload dJ8_init_2_30 rfl ?_
    obtain ⟨r12, g12, hm⟩ := bd_s hm
    refine oX_cost hm (fun qq12 hm => ?_)
    refine oX_cSK (as := [vR r2, vI (0 : Int32), vI r3]) dJ8_init_2_32 rfl ok_J5_copyOfRange rfl rfl q933 q934 q140 q935 (by decide) (Nat.le_of_ble_eq_true rfl) (t_J5_copyOfRange r2 (0 : Int32) r3 g12) (Nat.le_refl _) (Nat.le_refl _) ?_
    obtain ⟨FR13, hFR13, hm⟩ := oLs hm
    refine oX_putF fJ8_9 rfl (fun _ => rfl) (oD_t ht) dJ8_init_2_35 (by first | exact Or.inl ⟨_, rfl⟩ | exact Or.inr ⟨_, rfl⟩) hFR13 ?_
    refine oX_goto (tgt := 97) dJ8_init_2_38 (by decide) ?_
    obtain ⟨rfl, rfl⟩ := oEnd hm
    exact oX_vret dJ8_init_2_97 rfl hK
theorem t_J8_init_2 {G : OhG} {FI AI : OhI} {FL AL : OhL} {FR GR AR BR : OhQ} {AN : OhN} {C : OhC} (t : Nat × Nat) (ht : ohKd t.1 = 18) (x1 : OhR) (x2 : OhR) {o : (OhI × OhQ × OhI × OhN × OhC) × (Nat × Nat)} (hm : mJ8_init_2 FI FR GR AI AN C t x1 x2 = some o) : oT G 4 iJ8_init_2 [vR (some t), vR x1, vR x2] (FI, FL, FR, GR, AI, AL, AR, BR, AN, C) o.2 (fun v h => v = none ∧ h = (o.1.1, FL, o.1.2.1, GR, o.1.2.2.1, AL, AR, BR, o.1.2.2.2.1, o.1.2.2.2.2)) ohNo :=
  oT_of (by decide) rfl (Nat.le_of_ble_eq_true rfl) (x_mJ8_init_2 (k := (0, 0)) t ht x1 x2 hm ⟨rfl, rfl⟩)
abbrev iJ8_init : OhM := (yJ8_init, cJ8_init, 2, none, [])
theorem ok_J8_init : oOk iJ8_init 1 := ⟨by decide, by decide, by decide +kernel⟩
noncomputable def mJ8_init (FI : OhI) (FR : OhQ) (GR : OhQ) (AI : OhI) (AN : OhN) (C : OhC) (t : Nat × Nat) (x1 : OhR) : Option ((OhI × OhQ × OhI × OhN × OhC) × (Nat × Nat)) :=
  (mJ8_init_2 FI FR GR AI AN C t x1 none).bind fun r1 =>
  oCost r1.2 <|
  some ((r1.1.1, r1.1.2.1, r1.1.2.2.1, r1.1.2.2.2.1, r1.1.2.2.2.2), (0, 0))
theorem x_mJ8_init {G : OhG} {FI AI : OhI} {FL AL : OhL} {FR GR AR BR : OhQ} {AN : OhN} {C : OhC} {k : Nat × Nat} {Φ : OhP} {Ψ : OhX} (t : Nat × Nat) (ht : ohKd t.1 = 18) (x1 : OhR) {r : (OhI × OhQ × OhI × OhN × OhC) × (Nat × Nat)} (hm : mJ8_init FI FR GR AI AN C t x1 = some r) (hK : Φ none (r.1.1, FL, r.1.2.1, GR, r.1.2.2.1, AL, AR, BR, r.1.2.2.2.1, r.1.2.2.2.2)) : oX G 5 iJ8_init 0 [(0, vR (some t)), (1, vR x1)] [] (FI, FL, FR, GR, AI, AL, AR, BR, AN, C) (oPl r.2 k) Φ Ψ := by
  obtain ⟨r, q0⟩ := r
  unfold mJ8_init at hm
  refine oX_aload_n dJ8_init_0 rfl rfl ?_
  refine oX_aload_n dJ8_init_1 rfl rfl ?_
  refine oX_null dJ8_init_2 ?_
  obtain ⟨r1, g1, hm⟩ := bd_s hm
  refine oX_cost hm (fun qq1 hm => ?_)
  refine oX_cIK (as := [vR x1, vR none]) dJ8_init_3 rfl ok_J8_init_2 rfl rfl rfl q915 q916 q147 q917 (by decide) (Nat.le_of_ble_eq_true rfl) (t_J8_init_2 t ht x1 none g1) (Nat.le_refl _) (Nat.le_refl _) ?_
  obtain ⟨rfl, rfl⟩ := oEnd hm
  exact oX_vret dJ8_init_6 rfl hK
theorem t_J8_init {G : OhG} {FI AI : OhI} {FL AL : OhL} {FR GR AR BR : OhQ} {AN : OhN} {C : OhC} (t : Nat × Nat) (ht : ohKd t.1 = 18) (x1 : OhR) {o : (OhI × OhQ × OhI × OhN × OhC) × (Nat × Nat)} (hm : mJ8_init FI FR GR AI AN C t x1 = some o) : oT G 5 iJ8_init [vR (some t), vR x1] (FI, FL, FR, GR, AI, AL, AR, BR, AN, C) o.2 (fun v h => v = none ∧ h = (o.1.1, FL, o.1.2.1, GR, o.1.2.2.1, AL, AR, BR, o.1.2.2.2.1, o.1.2.2.2.2)) ohNo :=
  oT_of (by decide) rfl (Nat.le_of_ble_eq_true rfl) (x_mJ8_init (k := (0, 0)) t ht x1 hm ⟨rfl, rfl⟩)
abbrev iJ13_toString : OhM := (yJ13_toString, cJ13_toString, 1, (some (FieldType.object "java/lang/String")), [])
theorem ok_J13_toString : oOk iJ13_toString 0 := ⟨by decide, by decide, by decide +kernel⟩
noncomputable def mJ13_toString (FI : OhI) (FR : OhQ) (GR : OhQ) (AI : OhI) (AN : OhN) (C : OhC) (t : Nat × Nat) : Option ((OhR × OhI × OhQ × OhI × OhN × OhC) × (Nat × Nat)) :=
  oLet (sA FI 31 (C 31) (fun _ => 0)) fun FI1 =>
  oLet (sA FR 31 (C 31) (fun _ => none)) fun FR1 =>
  oLet (uA C 31 (C 31 + 1)) fun C1 =>
  oCost (1, 4) <|
  (mJ8_init FI1 FR1 GR AI AN C1 (31, C 31) (some t)).bind fun r2 =>
  oCost r2.2 <|
  some ((some (31, C 31), r2.1.1, r2.1.2.1, r2.1.2.2.1, r2.1.2.2.2.1, r2.1.2.2.2.2), (0, 0))
theorem x_mJ13_toString {G : OhG} {FI AI : OhI} {FL AL : OhL} {FR GR AR BR : OhQ} {AN : OhN} {C : OhC} {k : Nat × Nat} {Φ : OhP} {Ψ : OhX} (t : Nat × Nat) (ht : ohKd t.1 = 19) {r : (OhR × OhI × OhQ × OhI × OhN × OhC) × (Nat × Nat)} (hm : mJ13_toString FI FR GR AI AN C t = some r) (hK : Φ (some (vR r.1.1)) (r.1.2.1, FL, r.1.2.2.1, GR, r.1.2.2.2.1, AL, AR, BR, r.1.2.2.2.2.1, r.1.2.2.2.2.2)) : oX G 6 iJ13_toString 0 [(0, vR (some t))] [] (FI, FL, FR, GR, AI, AL, AR, BR, AN, C) (oPl r.2 k) Φ Ψ := by
  obtain ⟨r, q0⟩ := r
  unfold mJ13_toString at hm
  obtain ⟨FI1, hFI1, hm⟩ := oLs hm
  obtain ⟨FR1, hFR1, hm⟩ := oLs hm
  obtain ⟨C1, hC1, hm⟩ := oLs hm
  refine oX_cost hm (fun qq1 hm => ?_)
  refine oX_newIF (s9 := 31) (k := oPl qq1 k) nJ13_18 rfl (by decide) dJ13_toString_0 hFI1 hFR1 hC1 ?_
  refine oX_dup dJ13_toString_3 trivial ?_
  refine oX_aload_n dJ13_toString_4 rfl rfl ?_
  obtain ⟨r2, g2, hm⟩ := bd_s hm
  refine oX_cost hm (fun qq2 hm => ?_)
  refine oX_cIK (as := [vR (some t)]) dJ13_toString_5 rfl ok_J8_init rfl rfl rfl q912 q913 q147 q914 (by decide) (Nat.le_of_ble_eq_true rfl) (t_J8_init (31, C 31) rfl (some t) g2) (Nat.le_refl _) (Nat.le_refl _) ?_
  obtain ⟨rfl, rfl⟩ := oEnd hm
  exact oX_aret dJ13_toString_8 rfl (by first | exact Or.inl ⟨_, rfl⟩ | exact Or.inr ⟨_, rfl⟩) hK
theorem t_J13_toString {G : OhG} {FI AI : OhI} {FL AL : OhL} {FR GR AR BR : OhQ} {AN : OhN} {C : OhC} (t : Nat × Nat) (ht : ohKd t.1 = 19) {o : (OhR × OhI × OhQ × OhI × OhN × OhC) × (Nat × Nat)} (hm : mJ13_toString FI FR GR AI AN C t = some o) : oT G 6 iJ13_toString [vR (some t)] (FI, FL, FR, GR, AI, AL, AR, BR, AN, C) o.2 (fun v h => v = (some (vR o.1.1)) ∧ h = (o.1.2.1, FL, o.1.2.2.1, GR, o.1.2.2.2.1, AL, AR, BR, o.1.2.2.2.2.1, o.1.2.2.2.2.2)) ohNo :=
  oT_of (by decide) rfl (Nat.le_of_ble_eq_true rfl) (x_mJ13_toString (k := (0, 0)) t ht hm ⟨rfl, rfl⟩)
abbrev iJ9_equals : OhM := (yJ9_equals, cJ9_equals, 3, (some .boolean), [])
theorem ok_J9_equals : oOk iJ9_equals 2 := ⟨by decide, by decide, by decide +kernel⟩
noncomputable def mJ9_equals_b9 (n : Nat) (AI : OhI) (AN : OhN) (x0 : OhR) (x1 : OhR) (x2 : Int32) : Option ((Int32) ⊕ ((Unit) ⊕ (Unit))) :=
  (oD2 2 x0).bind fun a4 =>
  (if (Int32.ofNat (AN a4.1 a4.2)) ≤ x2 then
  some (.inr (.inl ()))
else
  gd (vp_in x2 (AN a4.1 a4.2)) <|
    (oD2 2 x1).bind fun a7 =>
    gd (vp_in x2 (AN a7.1 a7.2)) <|
    (if (AI a4.1 a4.2 x2.toNatClampNeg) = (AI a7.1 a7.2 x2.toNatClampNeg) then
    some (.inl (x2 + (1 : Int32)))
  else
    some (.inr (.inr ()))))
theorem x_mJ9_equals_b9 {G : OhG} {FI AI : OhI} {FL AL : OhL} {FR GR AR BR : OhQ} {AN : OhN} {C : OhC} {k : Nat × Nat} {Φ : OhP} {Ψ : OhX} (n : Nat) (x0 : OhR) (x1 : OhR) (x2 : Int32) {r : (Int32) ⊕ ((Unit) ⊕ (Unit))} (hm : mJ9_equals_b9 n AI AN x0 x1 x2 = some r) (hk : ∀ v : Int32, r = .inl v → oX G 1 iJ9_equals 9 [(0, vR x0), (1, vR x1), (2, vI v)] [] (FI, FL, FR, GR, AI, AL, AR, BR, AN, C) k Φ Ψ) (hx1 : ∀ v : Unit, r = .inr (.inl v) → oX G 1 iJ9_equals 32 [] [] (FI, FL, FR, GR, AI, AL, AR, BR, AN, C) k Φ Ψ) (hx2 : ∀ v : Unit, r = .inr (.inr v) → oX G 1 iJ9_equals 24 [] [] (FI, FL, FR, GR, AI, AL, AR, BR, AN, C) k Φ Ψ) : oX G 1 iJ9_equals 9 [(0, vR x0), (1, vR x1), (2, vI x2)] [] (FI, FL, FR, GR, AI, AL, AR, BR, AN, C) k Φ Ψ := by
  unfold mJ9_equals_b9 at hm
  refine oX_iload_n dJ9_equals_9 rfl rfl ?_
  refine oX_aload_n dJ9_equals_10 rfl rfl ?_
  obtain ⟨a4, e4, hm⟩ := bd_s hm
  refine oX_alen2 2 (by decide) e4 dJ9_equals_11 ?_
  refine oX_icmp_ge (tgt := 32) dJ9_equals_12 (by decide) (fun c5 => ?_) (fun c5 => ?_)
  · have hm := ifp c5 hm
    exact oX_sub [] rfl (hx1 () (Option.some.inj hm).symm)
  · have hm := ifn c5 hm
    refine oX_aload_n dJ9_equals_15 rfl rfl ?_
    refine oX_iload_n dJ9_equals_16 rfl rfl ?_
    obtain ⟨g6, hm⟩ := gd_s hm
    refine oX_bald2 e4 g6 dJ9_equals_17 ?_
    refine oX_aload_n dJ9_equals_18 rfl rfl ?_
    refine oX_iload_n dJ9_equals_19 rfl rfl ?_
    obtain ⟨a7, e7, hm⟩ := bd_s hm
    obtain ⟨g8, hm⟩ := gd_s hm
    refine oX_bald2 e7 g8 dJ9_equals_20 ?_
    refine oX_icmp_eq (tgt := 26) dJ9_equals_21 (by decide) (fun c9 => ?_) (fun c9 => ?_)
    · have hm := ifp c9 hm
      refine oX_iinc (v := x2 + (1 : Int32)) (ls' := [(2, vI (x2 + (1 : Int32))), (0, vR x0), (1, vR x1)]) dJ9_equals_26 rfl rfl (by decide) rfl ?_
      refine oX_goto (tgt := 9) dJ9_equals_29 (by decide) ?_
      exact oX_sub [1, 2, 0] rfl (hk (x2 + (1 : Int32)) (Option.some.inj hm).symm)
    · have hm := ifn c9 hm
      exact oX_sub [] rfl (hx2 () (Option.some.inj hm).symm)
theorem l_mJ9_equals_b9 {G : OhG} {FI : OhI} {FL : OhL} {FR : OhQ} {GR : OhQ} {AI : OhI} {AL : OhL} {AR : OhQ} {BR : OhQ} {AN : OhN} {C : OhC} {k : Nat × Nat} {Φ : OhP} {Ψ : OhX} (n : Nat) (x0 : OhR) (x1 : OhR) : ∀ (f : Nat) (x2 : Int32) (b : ((Unit) ⊕ (Unit))), lpF (fun v => mJ9_equals_b9 n AI AN x0 x1 v) f x2 = some b → (∀ v : Unit, b = (.inl v) → oX G 1 iJ9_equals 32 [] [] (FI, FL, FR, GR, AI, AL, AR, BR, AN, C) k Φ Ψ) → (∀ v : Unit, b = (.inr v) → oX G 1 iJ9_equals 24 [] [] (FI, FL, FR, GR, AI, AL, AR, BR, AN, C) k Φ Ψ) → oX G 1 iJ9_equals 9 [(0, vR x0), (1, vR x1), (2, vI x2)] [] (FI, FL, FR, GR, AI, AL, AR, BR, AN, C) k Φ Ψ := by
  intro f
  induction f with
  | zero =>
    intro x2 b hm
    cases hm
  | succ f ih =>
    intro x2 b hm hx1 hx2
    obtain ⟨r, hr, hm⟩ := lp_s hm
    refine x_mJ9_equals_b9 n x0 x1 x2 hr (fun v e => ?_) (fun v e => ?_) (fun v e => ?_)
    · subst e; exact ih v _ hm hx1 hx2
    · subst e; exact hx1 v hm.symm
    · subst e; exact hx2 v hm.symm
noncomputable def mJ9_equals (n : Nat) (AI : OhI) (AN : OhN) (x0 : OhR) (x1 : OhR) : Option (Int32) :=
  (oD2 2 x0).bind fun a1 =>
  (oD2 2 x1).bind fun a2 =>
  (if (Int32.ofNat (AN a1.1 a1.2)) = (Int32.ofNat (AN a2.1 a2.2)) then
  (lpF (fun v => mJ9_equals_b9 n AI AN x0 x1 v) n (0 : Int32)).bind (Sum.elim (fun v10 => some (1 : Int32)) (fun v10 => some (0 : Int32)))
else
  some (0 : Int32))
theorem x_mJ9_equals {G : OhG} {FI AI : OhI} {FL AL : OhL} {FR GR AR BR : OhQ} {AN : OhN} {C : OhC} {k : Nat × Nat} {Φ : OhP} {Ψ : OhX} (n : Nat) (x0 : OhR) (x1 : OhR) {r : Int32} (hm : mJ9_equals n AI AN x0 x1 = some r) (hK : Φ (some (vI r)) (FI, FL, FR, GR, AI, AL, AR, BR, AN, C)) : oX G 1 iJ9_equals 0 [(0, vR x0), (1, vR x1)] [] (FI, FL, FR, GR, AI, AL, AR, BR, AN, C) k Φ Ψ := by
  unfold mJ9_equals at hm
  refine oX_aload_n dJ9_equals_0 rfl rfl ?_
  obtain ⟨a1, e1, hm⟩ := bd_s hm
  refine oX_alen2 2 (by decide) e1 dJ9_equals_1 ?_
  refine oX_aload_n dJ9_equals_2 rfl rfl ?_
  obtain ⟨a2, e2, hm⟩ := bd_s hm
  refine oX_alen2 2 (by decide) e2 dJ9_equals_3 ?_
  refine oX_icmp_ne (tgt := 34) dJ9_equals_4 (by decide) (fun c3 => ?_) (fun c3 => ?_)
  · have hm := ifp c3 hm
    refine oX_iconst (v := (0 : Int32)) dJ9_equals_7 (by decide) ?_
    refine oX_istore_n (ls' := [(2, vI (0 : Int32)), (0, vR x0), (1, vR x1)]) dJ9_equals_8 rfl (by decide) rfl ?_
    obtain ⟨b10, g10, hm⟩ := bd_s hm
    refine oX_sub [1, 2, 0] rfl (l_mJ9_equals_b9 n x0 x1 n (0 : Int32) _ g10 (fun v10 e10 => ?_) (fun v10 e10 => ?_))
    · subst e10
      have hm := el1 hm
      refine oX_iconst (v := (1 : Int32)) dJ9_equals_32 (by decide) ?_
      obtain rfl := Option.some.inj hm
      exact oX_iret dJ9_equals_33 rfl (by decide) hK
    · subst e10
      have hm := el2 hm
      refine oX_iconst (v := (0 : Int32)) dJ9_equals_24 (by decide) ?_
      obtain rfl := Option.some.inj hm
      exact oX_iret dJ9_equals_25 rfl (by decide) hK
  · have hm := ifn c3 hm
    refine oX_iconst (v := (0 : Int32)) dJ9_equals_34 (by decide) ?_
    obtain rfl := Option.some.inj hm
    exact oX_iret dJ9_equals_35 rfl (by decide) hK
theorem t_J9_equals {G : OhG} {FI AI : OhI} {FL AL : OhL} {FR GR AR BR : OhQ} {AN : OhN} {C : OhC} (n : Nat) (x0 : OhR) (x1 : OhR) {o : Int32} (hm : mJ9_equals n AI AN x0 x1 = some o) : oT G 1 iJ9_equals [vR x0, vR x1] (FI, FL, FR, GR, AI, AL, AR, BR, AN, C) (0, 0) (fun v h => v = (some (vI o)) ∧ h = (FI, FL, FR, GR, AI, AL, AR, BR, AN, C)) ohNo :=
  oT_of (by decide) rfl (Nat.le_of_ble_eq_true rfl) (x_mJ9_equals n x0 x1 hm ⟨rfl, rfl⟩)
abbrev iJ8_equals : OhM := (yJ8_equals, cJ8_equals, 3, (some .boolean), [])
theorem ok_J8_equals : oOk iJ8_equals 1 := ⟨by decide, by decide, by decide +kernel⟩
noncomputable def mJ8_equals_j36 (n : Nat) (FI : OhI) (FR : OhQ) (AI : OhI) (AN : OhN) (t : Nat × Nat) (x2 : OhR) : Option (Int32) :=
  (oDS x2).bind fun a5 =>
  (mJ9_equals n AI AN (FR t.1 t.2 0) (FR a5.1 a5.2 0)).bind fun r6 =>
  (if r6 = 0 then
  some (0 : Int32)
else
  some (1 : Int32))
theorem x_mJ8_equals_j36 {G : OhG} {FI AI : OhI} {FL AL : OhL} {FR GR AR BR : OhQ} {AN : OhN} {C : OhC} {k : Nat × Nat} {Φ : OhP} {Ψ : OhX} (n : Nat) (t : Nat × Nat) (ht : ohKd t.1 = 18 ∨ ohKd t.1 = 130) (x2 : OhR) {r : Int32} (hm : mJ8_equals_j36 n FI FR AI AN t x2 = some r) (hK : Φ (some (vI r)) (FI, FL, FR, GR, AI, AL, AR, BR, AN, C)) : oX G 2 iJ8_equals 36 [(0, vR (some t)), (2, vR x2)] [] (FI, FL, FR, GR, AI, AL, AR, BR, AN, C) k Φ Ψ := by
  unfold mJ8_equals_j36 at hm
  refine oX_aload_n dJ8_equals_36 rfl rfl ?_
  refine oX_getFS fJ8_9 (oDS_t ht) dJ8_equals_37 ?_
  refine oX_aload_n dJ8_equals_40 rfl rfl ?_
  obtain ⟨a5, e5, hm⟩ := bd_s hm
  refine oX_getFS fJ8_9 e5 dJ8_equals_41 ?_
  obtain ⟨r6, g6, hm⟩ := bd_s hm
  refine oX_cS (as := [vR (FR t.1 t.2 0), vR (FR a5.1 a5.2 0)]) dJ8_equals_44 rfl ok_J9_equals rfl rfl q977 q978 q148 q979 (by decide) (Nat.le_of_ble_eq_true rfl) (t_J9_equals n (FR t.1 t.2 0) (FR a5.1 a5.2 0) g6) ?_
  refine oX_if_eq (tgt := 54) dJ8_equals_47 (by decide) (fun c7 => ?_) (fun c7 => ?_)
  · have hm := ifp c7 hm
    refine oX_iconst (v := (0 : Int32)) dJ8_equals_54 (by decide) ?_
    obtain rfl := Option.some.inj hm
    exact oX_iret dJ8_equals_55 rfl (by decide) hK
  · have hm := ifn c7 hm
    refine oX_iconst (v := (1 : Int32)) dJ8_equals_50 (by decide) ?_
    refine oX_goto (tgt := 55) dJ8_equals_51 (by decide) ?_
    obtain rfl := Option.some.inj hm
    exact oX_iret dJ8_equals_55 rfl (by decide) hK
noncomputable def mJ8_equals (n : Nat) (FI : OhI) (FR : OhQ) (AI : OhI) (AN : OhN) (t : Nat × Nat) (x1 : OhR) : Option (Int32) :=
  gd (oNm (some t) x1) <|
  (if (some t) = x1 then
  some (1 : Int32)
else
  (oDS x1).bind fun a2 =>
    (if (1 : Int32) = 0 then
    some (0 : Int32)
  else
    (if (1 : Int32) = 0 then
      mJ8_equals_j36 n FI FR AI AN t (some a2)
    else
      (if (FI t.1 t.2 1) = (FI a2.1 a2.2 1) then
        mJ8_equals_j36 n FI FR AI AN t (some a2)
      else
        some (0 : Int32)))))
theorem x_mJ8_equals {G : OhG} {FI AI : OhI} {FL AL : OhL} {FR GR AR BR : OhQ} {AN : OhN} {C : OhC} {k : Nat × Nat} {Φ : OhP} {Ψ : OhX} (n : Nat) (t : Nat × Nat) (ht : ohKd t.1 = 18 ∨ ohKd t.1 = 130) (x1 : OhR) {r : Int32} (hm : mJ8_equals n FI FR AI AN t x1 = some r) (hK : Φ (some (vI r)) (FI, FL, FR, GR, AI, AL, AR, BR, AN, C)) : oX G 2 iJ8_equals 0 [(0, vR (some t)), (1, vR x1)] [] (FI, FL, FR, GR, AI, AL, AR, BR, AN, C) k Φ Ψ := by
  unfold mJ8_equals at hm
  refine oX_aload_n dJ8_equals_0 rfl rfl ?_
  refine oX_aload_n dJ8_equals_1 rfl rfl ?_
  obtain ⟨n1, hm⟩ := gd_s hm
  refine oX_acmp_ne (tgt := 7) n1 dJ8_equals_2 (by decide) (fun c1 => ?_) (fun c1 => ?_)
  · have hm := ifp c1 hm
    refine oX_iconst (v := (1 : Int32)) dJ8_equals_5 (by decide) ?_
    obtain rfl := Option.some.inj hm
    exact oX_iret dJ8_equals_6 rfl (by decide) hK
  · have hm := ifn c1 hm
    refine oX_aload_n dJ8_equals_7 rfl rfl ?_
    obtain ⟨a2, e2, hm⟩ := bd_s hm
    refine oX_instS e2 q976 dJ8_equals_8 ?_
    refine oX_if_eq (tgt := 54) dJ8_equals_11 (by decide) (fun c3 => ?_) (fun c3 => ?_)
    · have hm := ifp c3 hm
      refine oX_iconst (v := (0 : Int32)) dJ8_equals_54 (by decide) ?_
      obtain rfl := Option.some.inj hm
      exact oX_iret dJ8_equals_55 rfl (by decide) hK
    · have hm := ifn c3 hm
      refine oX_aload_n dJ8_equals_14 rfl rfl ?_
      refine oX_castS e2 q976 dJ8_equals_15 ?_
      refine oX_astore_n (ls' := [(2, vR (some a2)), (0, vR (some t)), (1, vR x1)]) dJ8_equals_18 rfl (by decide) rfl ?_
      refine oX_getsI (x := 1) (fun _ => List.mem_cons_of_mem _ (List.mem_cons_self)) q739 dJ8_equals_19 ?_
      refine oX_if_eq (tgt := 36) dJ8_equals_22 (by decide) (fun c4 => ?_) (fun c4 => ?_)
      · have hm := ifp c4 hm
        exact oX_sub [1, 0] rfl (x_mJ8_equals_j36 n t ht (some a2) hm hK)
      · have hm := ifn c4 hm
        refine oX_aload_n dJ8_equals_25 rfl rfl ?_
        refine oX_getIS fJ8_15 (oDS_t ht) dJ8_equals_26 ?_
        refine oX_aload_n dJ8_equals_29 rfl rfl ?_
        refine oX_getIS fJ8_15 (oDS_self e2) dJ8_equals_30 ?_
        refine oX_icmp_ne (tgt := 54) dJ8_equals_33 (by decide) (fun c8 => ?_) (fun c8 => ?_)
        · have hm := ifp c8 hm
          exact oX_sub [1, 0] rfl (x_mJ8_equals_j36 n t ht (some a2) hm hK)
        · have hm := ifn c8 hm
          refine oX_iconst (v := (0 : Int32)) dJ8_equals_54 (by decide) ?_
          obtain rfl := Option.some.inj hm
          exact oX_iret dJ8_equals_55 rfl (by decide) hK
theorem t_J8_equals {G : OhG} {FI AI : OhI} {FL AL : OhL} {FR GR AR BR : OhQ} {AN : OhN} {C : OhC} (n : Nat) (t : Nat × Nat) (ht : ohKd t.1 = 18 ∨ ohKd t.1 = 130) (x1 : OhR) {o : Int32} (hm : mJ8_equals n FI FR AI AN t x1 = some o) : oT G 2 iJ8_equals [vR (some t), vR x1] (FI, FL, FR, GR, AI, AL, AR, BR, AN, C) (0, 0) (fun v h => v = (some (vI o)) ∧ h = (FI, FL, FR, GR, AI, AL, AR, BR, AN, C)) ohNo :=
  oT_of (by decide) rfl (Nat.le_of_ble_eq_true rfl) (x_mJ8_equals n t ht x1 hm ⟨rfl, rfl⟩)
abbrev iJ4_mismatch : OhM := (yJ4_mismatch, cJ4_mismatch, 8, (some .int), [])
theorem ok_J4_mismatch : oOk iJ4_mismatch 5 := ⟨by decide, by decide, by decide +kernel⟩
noncomputable def mJ4_mismatch_b70 (n : Nat) (AI : OhI) (AN : OhN) (x0 : OhR) (x1 : Int32) (x2 : OhR) (x3 : Int32) (x4 : Int32) (x5 : Int32) : Option ((Int32) ⊕ ((Unit) ⊕ (Int32))) :=
  (if x4 ≤ x5 then
  some (.inr (.inl ()))
else
  (oD2 2 x0).bind fun a3 =>
    gd (vp_in (x1 + x5) (AN a3.1 a3.2)) <|
    (oD2 2 x2).bind fun a5 =>
    gd (vp_in (x3 + x5) (AN a5.1 a5.2)) <|
    (if (AI a3.1 a3.2 (x1 + x5).toNatClampNeg) = (AI a5.1 a5.2 (x3 + x5).toNatClampNeg) then
    some (.inl (x5 + (1 : Int32)))
  else
    some (.inr (.inr x5))))
theorem x_mJ4_mismatch_b70 {G : OhG} {FI AI : OhI} {FL AL : OhL} {FR GR AR BR : OhQ} {AN : OhN} {C : OhC} {k : Nat × Nat} {Φ : OhP} {Ψ : OhX} (n : Nat) (x0 : OhR) (x1 : Int32) (x2 : OhR) (x3 : Int32) (x4 : Int32) (x5 : Int32) {r : (Int32) ⊕ ((Unit) ⊕ (Int32))} (hm : mJ4_mismatch_b70 n AI AN x0 x1 x2 x3 x4 x5 = some r) (hk : ∀ v : Int32, r = .inl v → oX G 1 iJ4_mismatch 70 [(0, vR x0), (1, vI x1), (2, vR x2), (3, vI x3), (4, vI x4), (5, vI v)] [] (FI, FL, FR, GR, AI, AL, AR, BR, AN, C) k Φ Ψ) (hx1 : ∀ v : Unit, r = .inr (.inl v) → oX G 1 iJ4_mismatch 101 [] [] (FI, FL, FR, GR, AI, AL, AR, BR, AN, C) k Φ Ψ) (hx2 : ∀ v : Int32, r = .inr (.inr v) → oX G 1 iJ4_mismatch 92 [(5, vI v)] [] (FI, FL, FR, GR, AI, AL, AR, BR, AN, C) k Φ Ψ) : oX G 1 iJ4_mismatch 70 [(0, vR x0), (1, vI x1), (2, vR x2), (3, vI x3), (4, vI x4), (5, vI x5)] [] (FI, FL, FR, GR, AI, AL, AR, BR, AN, C) k Φ Ψ := by
  unfold mJ4_mismatch_b70 at hm
  refine oX_iload dJ4_mismatch_70 rfl ?_
  refine oX_iload dJ4_mismatch_72 rfl ?_
  refine oX_icmp_ge (tgt := 101) dJ4_mismatch_74 (by decide) (fun c2 => ?_) (fun c2 => ?_)
  · have hm := ifp c2 hm
    exact oX_sub [] rfl (hx1 () (Option.some.inj hm).symm)
  · have hm := ifn c2 hm
    refine oX_aload_n dJ4_mismatch_77 rfl rfl ?_
    refine oX_iload_n dJ4_mismatch_78 rfl rfl ?_
    refine oX_iload dJ4_mismatch_79 rfl ?_
    refine oX_iadd dJ4_mismatch_81 ?_
    obtain ⟨a3, e3, hm⟩ := bd_s hm
    obtain ⟨g4, hm⟩ := gd_s hm
    refine oX_bald2 e3 g4 dJ4_mismatch_82 ?_
    refine oX_aload_n dJ4_mismatch_83 rfl rfl ?_
    refine oX_iload_n dJ4_mismatch_84 rfl rfl ?_
    refine oX_iload dJ4_mismatch_85 rfl ?_
    refine oX_iadd dJ4_mismatch_87 ?_
    obtain ⟨a5, e5, hm⟩ := bd_s hm
    obtain ⟨g6, hm⟩ := gd_s hm
    refine oX_bald2 e5 g6 dJ4_mismatch_88 ?_
    refine oX_icmp_eq (tgt := 95) dJ4_mismatch_89 (by decide) (fun c7 => ?_) (fun c7 => ?_)
    · have hm := ifp c7 hm
      refine oX_iinc (v := x5 + (1 : Int32)) (ls' := [(5, vI (x5 + (1 : Int32))), (0, vR x0), (1, vI x1), (2, vR x2), (3, vI x3), (4, vI x4)]) dJ4_mismatch_95 rfl rfl (by decide) rfl ?_
      refine oX_goto (tgt := 70) dJ4_mismatch_98 (by decide) ?_
      exact oX_sub [1, 2, 3, 4, 5, 0] rfl (hk (x5 + (1 : Int32)) (Option.some.inj hm).symm)
    · have hm := ifn c7 hm
      exact oX_sub [5] rfl (hx2 x5 (Option.some.inj hm).symm)
theorem l_mJ4_mismatch_b70 {G : OhG} {FI : OhI} {FL : OhL} {FR : OhQ} {GR : OhQ} {AI : OhI} {AL : OhL} {AR : OhQ} {BR : OhQ} {AN : OhN} {C : OhC} {k : Nat × Nat} {Φ : OhP} {Ψ : OhX} (n : Nat) (x0 : OhR) (x1 : Int32) (x2 : OhR) (x3 : Int32) (x4 : Int32) : ∀ (f : Nat) (x5 : Int32) (b : ((Unit) ⊕ (Int32))), lpF (fun v => mJ4_mismatch_b70 n AI AN x0 x1 x2 x3 x4 v) f x5 = some b → (∀ v : Unit, b = (.inl v) → oX G 1 iJ4_mismatch 101 [] [] (FI, FL, FR, GR, AI, AL, AR, BR, AN, C) k Φ Ψ) → (∀ v : Int32, b = (.inr v) → oX G 1 iJ4_mismatch 92 [(5, vI v)] [] (FI, FL, FR, GR, AI, AL, AR, BR, AN, C) k Φ Ψ) → oX G 1 iJ4_mismatch 70 [(0, vR x0), (1, vI x1), (2, vR x2), (3, vI x3), (4, vI x4), (5, vI x5)] [] (FI, FL, FR, GR, AI, AL, AR, BR, AN, C) k Φ Ψ := by
  intro f
  induction f with
  | zero =>
    intro x5 b hm
    cases hm
  | succ f ih =>
    intro x5 b hm hx1 hx2
    obtain ⟨r, hr, hm⟩ := lp_s hm
    refine x_mJ4_mismatch_b70 n x0 x1 x2 x3 x4 x5 hr (fun v e => ?_) (fun v e => ?_) (fun v e => ?_)
    · subst e; exact ih v _ hm hx1 hx2
    · subst e; exact hx1 v hm.symm
    · subst e; exact hx2 v hm.symm
noncomputable def mJ4_mismatch (n : Nat) (AI : OhI) (AN : OhN) (x0 : OhR) (x1 : Int32) (x2 : OhR) (x3 : Int32) (x4 : Int32) : Option (Int32) :=
  (if x4 ≤ (7 : Int32) then
  (lpF (fun v => mJ4_mismatch_b70 n AI AN x0 x1 x2 x3 x4 v) n (0 : Int32)).bind (Sum.elim (fun v8 => some (-1 : Int32)) (fun v8 => some v8))
else
  (oD2 2 x0).bind fun a9 =>
    gd (vp_in x1 (AN a9.1 a9.2)) <|
    (oD2 2 x2).bind fun a11 =>
    gd (vp_in x3 (AN a11.1 a11.2)) <|
    (if (AI a9.1 a9.2 x1.toNatClampNeg) = (AI a11.1 a11.2 x3.toNatClampNeg) then
    none
  else
    some (0 : Int32)))
theorem x_mJ4_mismatch {G : OhG} {FI AI : OhI} {FL AL : OhL} {FR GR AR BR : OhQ} {AN : OhN} {C : OhC} {k : Nat × Nat} {Φ : OhP} {Ψ : OhX} (n : Nat) (x0 : OhR) (x1 : Int32) (x2 : OhR) (x3 : Int32) (x4 : Int32) {r : Int32} (hm : mJ4_mismatch n AI AN x0 x1 x2 x3 x4 = some r) (hK : Φ (some (vI r)) (FI, FL, FR, GR, AI, AL, AR, BR, AN, C)) : oX G 1 iJ4_mismatch 0 [(0, vR x0), (1, vI x1), (2, vR x2), (3, vI x3), (4, vI x4)] [] (FI, FL, FR, GR, AI, AL, AR, BR, AN, C) k Φ Ψ := by
  unfold mJ4_mismatch at hm
  refine oX_iconst (v := (0 : Int32)) dJ4_mismatch_0 (by decide) ?_
  refine oX_istore (ls' := [(5, vI (0 : Int32)), (0, vR x0), (1, vI x1), (2, vR x2), (3, vI x3), (4, vI x4)]) dJ4_mismatch_1 (by decide) rfl ?_
  refine oX_iload dJ4_mismatch_3 rfl ?_
  refine oX_bipush (v := (7 : Int32)) dJ4_mismatch_5 (by decide) ?_
  refine oX_icmp_le (tgt := 70) dJ4_mismatch_7 (by decide) (fun c1 => ?_) (fun c1 => ?_)
  · have hm := ifp c1 hm
    obtain ⟨b8, g8, hm⟩ := bd_s hm
    refine oX_sub [1, 2, 3, 4, 5, 0] rfl (l_mJ4_mismatch_b70 n x0 x1 x2 x3 x4 n (0 : Int32) _ g8 (fun v8 e8 => ?_) (fun v8 e8 => ?_))
    · subst e8
      have hm := el1 hm
      refine oX_iconst (v := (-1 : Int32)) dJ4_mismatch_101 (by decide) ?_
      obtain rfl := Option.some.inj hm
      exact oX_iret dJ4_mismatch_102 rfl rfl hK
    · subst e8
      have hm := el2 hm
      refine oX_iload dJ4_mismatch_92 rfl ?_
      obtain rfl := Option.some.inj hm
      exact oX_iret dJ4_mismatch_94 rfl rfl hK
  · have hm := ifn c1 hm
    refine oX_aload_n dJ4_mismatch_10 rfl rfl ?_
    refine oX_iload_n dJ4_mismatch_11 rfl rfl ?_
    obtain ⟨a9, e9, hm⟩ := bd_s hm
    obtain ⟨g10, hm⟩ := gd_s hm
    refine oX_bald2 e9 g10 dJ4_mismatch_12 ?_
    refine oX_aload_n dJ4_mismatch_13 rfl rfl ?_
    refine oX_iload_n dJ4_mismatch_14 rfl rfl ?_
    obtain ⟨a11, e11, hm⟩ := bd_s hm
    obtain ⟨g12, hm⟩ := gd_s hm
    refine oX_bald2 e11 g12 dJ4_mismatch_15 ?_
    refine oX_icmp_eq (tgt := 21) dJ4_mismatch_16 (by decide) (fun c13 => ?_) (fun c13 => ?_)
    · have hm := ifp c13 hm
      refine oX_getsI (x := 16) (fun _ => List.mem_cons_of_mem _ (List.mem_cons_of_mem _ (List.mem_cons_of_mem _ (List.mem_cons_of_mem _ (List.mem_cons_of_mem _ (List.mem_cons_self)))))) q1115 dJ4_mismatch_21 ?_
      refine oX_iload_n dJ4_mismatch_24 rfl rfl ?_
      refine oX_iadd dJ4_mismatch_25 ?_
      refine oX_istore (ls' := [(6, vI ((16 : Int32) + x1)), (5, vI (0 : Int32)), (0, vR x0), (1, vI x1), (2, vR x2), (3, vI x3), (4, vI x4)]) dJ4_mismatch_26 (by decide) rfl ?_
      refine oX_getsI (x := 16) (fun _ => List.mem_cons_of_mem _ (List.mem_cons_of_mem _ (List.mem_cons_of_mem _ (List.mem_cons_of_mem _ (List.mem_cons_of_mem _ (List.mem_cons_self)))))) q1115 dJ4_mismatch_28 ?_
      refine oX_iload_n dJ4_mismatch_31 rfl rfl ?_
      refine oX_iadd dJ4_mismatch_32 ?_
      refine oX_istore (ls' := [(7, vI ((16 : Int32) + x3)), (6, vI ((16 : Int32) + x1)), (5, vI (0 : Int32)), (0, vR x0), (1, vI x1), (2, vR x2), (3, vI x3), (4, vI x4)]) dJ4_mismatch_33 (by decide) rfl ?_
      refine oX_aload_n dJ4_mismatch_35 rfl rfl ?_
      refine oX_iload dJ4_mismatch_36 rfl ?_
      refine oX_i2l dJ4_mismatch_38 ?_
      refine oX_aload_n dJ4_mismatch_39 rfl rfl ?_
      refine oX_iload dJ4_mismatch_40 rfl ?_
      refine oX_i2l dJ4_mismatch_42 ?_
      refine oX_iload dJ4_mismatch_43 rfl ?_
      cases hm
    · have hm := ifn c13 hm
      refine oX_iconst (v := (0 : Int32)) dJ4_mismatch_19 (by decide) ?_
      obtain rfl := Option.some.inj hm
      exact oX_iret dJ4_mismatch_20 rfl rfl hK
theorem t_J4_mismatch {G : OhG} {FI AI : OhI} {FL AL : OhL} {FR GR AR BR : OhQ} {AN : OhN} {C : OhC} (n : Nat) (x0 : OhR) (x1 : Int32) (x2 : OhR) (x3 : Int32) (x4 : Int32) {o : Int32} (hm : mJ4_mismatch n AI AN x0 x1 x2 x3 x4 = some o) : oT G 1 iJ4_mismatch [vR x0, vI x1, vR x2, vI x3, vI x4] (FI, FL, FR, GR, AI, AL, AR, BR, AN, C) (0, 0) (fun v h => v = (some (vI o)) ∧ h = (FI, FL, FR, GR, AI, AL, AR, BR, AN, C)) ohNo :=
  oT_of (by decide) rfl (Nat.le_of_ble_eq_true rfl) (x_mJ4_mismatch n x0 x1 x2 x3 x4 hm ⟨rfl, rfl⟩)
abbrev iJ8_startsWith : OhM := (yJ8_startsWith, cJ8_startsWith, 8, (some .boolean), [])
theorem ok_J8_startsWith : oOk iJ8_startsWith 2 := ⟨by decide, by decide, by decide +kernel⟩
noncomputable def mJ8_startsWith_j63 (n : Nat) (FI : OhI) (FR : OhQ) (AI : OhI) (AN : OhN) (t : Nat × Nat) (x2 : Int32) (x3 : OhR) (x4 : OhR) (x6 : Int32) : Option (Int32) :=
  (mJ4_mismatch n AI AN x3 x2 x4 (0 : Int32) x6).bind fun r11 =>
  (if 0 ≤ r11 then
  some (0 : Int32)
else
  some (1 : Int32))
theorem x_mJ8_startsWith_j63 {G : OhG} {FI AI : OhI} {FL AL : OhL} {FR GR AR BR : OhQ} {AN : OhN} {C : OhC} {k : Nat × Nat} {Φ : OhP} {Ψ : OhX} (n : Nat) (t : Nat × Nat) (ht : ohKd t.1 = 18 ∨ ohKd t.1 = 130) (x2 : Int32) (x3 : OhR) (x4 : OhR) (x6 : Int32) {r : Int32} (hm : mJ8_startsWith_j63 n FI FR AI AN t x2 x3 x4 x6 = some r) (hK : Φ (some (vI r)) (FI, FL, FR, GR, AI, AL, AR, BR, AN, C)) : oX G 3 iJ8_startsWith 63 [(2, vI x2), (3, vR x3), (4, vR x4), (6, vI x6)] [] (FI, FL, FR, GR, AI, AL, AR, BR, AN, C) k Φ Ψ := by
  unfold mJ8_startsWith_j63 at hm
  refine oX_aload_n dJ8_startsWith_63 rfl rfl ?_
  refine oX_iload_n dJ8_startsWith_64 rfl rfl ?_
  refine oX_aload dJ8_startsWith_65 rfl ?_
  refine oX_iconst (v := (0 : Int32)) dJ8_startsWith_67 (by decide) ?_
  refine oX_iload dJ8_startsWith_68 rfl ?_
  obtain ⟨r11, g11, hm⟩ := bd_s hm
  refine oX_cS (as := [vR x3, vI x2, vR x4, vI (0 : Int32), vI x6]) dJ8_startsWith_70 rfl ok_J4_mismatch rfl rfl q1112 q1113 q139 q1114 (by decide) (Nat.le_of_ble_eq_true rfl) (t_J4_mismatch n x3 x2 x4 (0 : Int32) x6 g11) ?_
  refine oX_if_ge (tgt := 80) dJ8_startsWith_73 (by decide) (fun c12 => ?_) (fun c12 => ?_)
  · have hm := ifp c12 hm
    refine oX_iconst (v := (0 : Int32)) dJ8_startsWith_80 (by decide) ?_
    obtain rfl := Option.some.inj hm
    exact oX_iret dJ8_startsWith_81 rfl (by decide) hK
  · have hm := ifn c12 hm
    refine oX_iconst (v := (1 : Int32)) dJ8_startsWith_76 (by decide) ?_
    refine oX_goto (tgt := 81) dJ8_startsWith_77 (by decide) ?_
    obtain rfl := Option.some.inj hm
    exact oX_iret dJ8_startsWith_81 rfl (by decide) hK
noncomputable def mJ8_startsWith_b89 (n : Nat) (FI : OhI) (FR : OhQ) (AI : OhI) (AN : OhN) (t : Nat × Nat) (x2 : Int32) (x3 : OhR) (x4 : OhR) (x5 : Int32) (x6 : Int32) : Option ((Int32 × Int32) ⊕ ((Unit) ⊕ (Unit))) :=
  (if x6 ≤ x5 then
  some (.inr (.inl ()))
else
  none)
theorem x_mJ8_startsWith_b89 {G : OhG} {FI AI : OhI} {FL AL : OhL} {FR GR AR BR : OhQ} {AN : OhN} {C : OhC} {k : Nat × Nat} {Φ : OhP} {Ψ : OhX} (n : Nat) (t : Nat × Nat) (ht : ohKd t.1 = 18 ∨ ohKd t.1 = 130) (x2 : Int32) (x3 : OhR) (x4 : OhR) (x5 : Int32) (x6 : Int32) {r : (Int32 × Int32) ⊕ ((Unit) ⊕ (Unit))} (hm : mJ8_startsWith_b89 n FI FR AI AN t x2 x3 x4 x5 x6 = some r) (hk : ∀ v : Int32 × Int32, r = .inl v → oX G 3 iJ8_startsWith 89 [(2, vI v.1), (3, vR x3), (4, vR x4), (5, vI v.2), (6, vI x6)] [] (FI, FL, FR, GR, AI, AL, AR, BR, AN, C) k Φ Ψ) (hx1 : ∀ v : Unit, r = .inr (.inl v) → oX G 3 iJ8_startsWith 121 [] [] (FI, FL, FR, GR, AI, AL, AR, BR, AN, C) k Φ Ψ) (hx2 : ∀ v : Unit, r = .inr (.inr v) → oX G 3 iJ8_startsWith 119 [] [] (FI, FL, FR, GR, AI, AL, AR, BR, AN, C) k Φ Ψ) : oX G 3 iJ8_startsWith 89 [(2, vI x2), (3, vR x3), (4, vR x4), (5, vI x5), (6, vI x6)] [] (FI, FL, FR, GR, AI, AL, AR, BR, AN, C) k Φ Ψ := by
  unfold mJ8_startsWith_b89 at hm
  refine oX_iload dJ8_startsWith_89 rfl ?_
  refine oX_iload dJ8_startsWith_91 rfl ?_
  refine oX_icmp_ge (tgt := 121) dJ8_startsWith_93 (by decide) (fun c14 => ?_) (fun c14 => ?_)
  · have hm := ifp c14 hm
    exact oX_sub [] rfl (hx1 () (Option.some.inj hm).symm)
  · have hm := ifn c14 hm
    refine oX_aload_n dJ8_startsWith_96 rfl rfl ?_
    refine oX_iload_n dJ8_startsWith_97 rfl rfl ?_
    refine oX_iinc (v := x2 + (1 : Int32)) (ls' := [(2, vI (x2 + (1 : Int32))), (3, vR x3), (4, vR x4), (5, vI x5), (6, vI x6)]) dJ8_startsWith_98 rfl rfl (by decide) rfl ?_
    cases hm
theorem l_mJ8_startsWith_b89 {G : OhG} {FI : OhI} {FL : OhL} {FR : OhQ} {GR : OhQ} {AI : OhI} {AL : OhL} {AR : OhQ} {BR : OhQ} {AN : OhN} {C : OhC} {k : Nat × Nat} {Φ : OhP} {Ψ : OhX} (n : Nat) (t : Nat × Nat) (ht : ohKd t.1 = 18 ∨ ohKd t.1 = 130) (x3 : OhR) (x4 : OhR) (x6 : Int32) : ∀ (f : Nat) (x2 : Int32) (x5 : Int32) (b : ((Unit) ⊕ (Unit))), lpF (fun v => mJ8_startsWith_b89 n FI FR AI AN t v.1 x3 x4 v.2 x6) f (x2, x5) = some b → (∀ v : Unit, b = (.inl v) → oX G 3 iJ8_startsWith 121 [] [] (FI, FL, FR, GR, AI, AL, AR, BR, AN, C) k Φ Ψ) → (∀ v : Unit, b = (.inr v) → oX G 3 iJ8_startsWith 119 [] [] (FI, FL, FR, GR, AI, AL, AR, BR, AN, C) k Φ Ψ) → oX G 3 iJ8_startsWith 89 [(2, vI x2), (3, vR x3), (4, vR x4), (5, vI x5), (6, vI x6)] [] (FI, FL, FR, GR, AI, AL, AR, BR, AN, C) k Φ Ψ := by
  intro f
  induction f with
  | zero =>
    intro x2 x5 b hm
    cases hm
  | succ f ih =>
    intro x2 x5 b hm hx1 hx2
    obtain ⟨r, hr, hm⟩ := lp_s hm
    refine x_mJ8_startsWith_b89 n t ht x2 x3 x4 x5 x6 hr (fun v e => ?_) (fun v e => ?_) (fun v e => ?_)
    · subst e; exact ih v.1 v.2 _ hm hx1 hx2
    · subst e; exact hx1 v hm.symm
    · subst e; exact hx2 v hm.symm
noncomputable def mJ8_startsWith (n : Nat) (FI : OhI) (FR : OhQ) (AI : OhI) (AN : OhN) (t : Nat × Nat) (x1 : OhR) (x2 : Int32) : Option (Int32) :=
  (if x2 < 0 then
  some (0 : Int32)
else
  (mJ8_length FI FR AN t).bind fun r2 =>
    (oDS x1).bind fun a3 =>
    (mJ8_length FI FR AN a3).bind fun r4 =>
    (if x2 ≤ (r2 - r4) then
    (oD2 2 (FR a3.1 a3.2 0)).bind fun a6 =>
      (mJ8_coder FI t).bind fun r7 =>
      (mJ8_coder FI a3).bind fun r8 =>
      (if r7 = r8 then
      (if r7 = (1 : Int32) then
        mJ8_startsWith_j63 n FI FR AI AN t (x2 <<< ((1 : Int32) &&& 31)) (FR t.1 t.2 0) (FR a3.1 a3.2 0) (Int32.ofNat (AN a6.1 a6.2))
      else
        mJ8_startsWith_j63 n FI FR AI AN t x2 (FR t.1 t.2 0) (FR a3.1 a3.2 0) (Int32.ofNat (AN a6.1 a6.2)))
    else
      (if r7 = 0 then
        some (0 : Int32)
      else
        (lpF (fun v => mJ8_startsWith_b89 n FI FR AI AN t v.1 (FR t.1 t.2 0) (FR a3.1 a3.2 0) v.2 (Int32.ofNat (AN a6.1 a6.2))) n (x2, (0 : Int32))).bind (Sum.elim (fun v15 => some (1 : Int32)) (fun v15 => some (0 : Int32)))))
  else
    some (0 : Int32)))
theorem x_mJ8_startsWith {G : OhG} {FI AI : OhI} {FL AL : OhL} {FR GR AR BR : OhQ} {AN : OhN} {C : OhC} {k : Nat × Nat} {Φ : OhP} {Ψ : OhX} (n : Nat) (t : Nat × Nat) (ht : ohKd t.1 = 18 ∨ ohKd t.1 = 130) (x1 : OhR) (x2 : Int32) {r : Int32} (hm : mJ8_startsWith n FI FR AI AN t x1 x2 = some r) (hK : Φ (some (vI r)) (FI, FL, FR, GR, AI, AL, AR, BR, AN, C)) : oX G 3 iJ8_startsWith 0 [(0, vR (some t)), (1, vR x1), (2, vI x2)] [] (FI, FL, FR, GR, AI, AL, AR, BR, AN, C) k Φ Ψ := by
  unfold mJ8_startsWith at hm
  refine oX_iload_n dJ8_startsWith_0 rfl rfl ?_
  refine oX_if_lt (tgt := 17) dJ8_startsWith_1 (by decide) (fun c1 => ?_) (fun c1 => ?_)
  · have hm := ifp c1 hm
    refine oX_iconst (v := (0 : Int32)) dJ8_startsWith_17 (by decide) ?_
    obtain rfl := Option.some.inj hm
    exact oX_iret dJ8_startsWith_18 rfl (by decide) hK
  · have hm := ifn c1 hm
    refine oX_iload_n dJ8_startsWith_4 rfl rfl ?_
    refine oX_aload_n dJ8_startsWith_5 rfl rfl ?_
    obtain ⟨r2, g2, hm⟩ := bd_s hm
    refine oX_cVS (as := []) dJ8_startsWith_6 rfl (oDS_t ht) rfl ok_J8_length rfl rfl q741 q742 q743 q147 q744 (by decide) (Nat.le_of_ble_eq_true rfl) (t_J8_length t ht g2) ?_
    refine oX_aload_n dJ8_startsWith_9 rfl rfl ?_
    obtain ⟨a3, e3, hm⟩ := bd_s hm
    obtain ⟨r4, g4, hm⟩ := bd_s hm
    refine oX_cVS (as := []) dJ8_startsWith_10 rfl e3 rfl ok_J8_length rfl rfl q741 q742 q743 q147 q744 (by decide) (Nat.le_of_ble_eq_true rfl) (t_J8_length a3 ((oDS_some e3).2) g4) ?_
    refine oX_isub dJ8_startsWith_13 ?_
    refine oX_icmp_le (tgt := 19) dJ8_startsWith_14 (by decide) (fun c5 => ?_) (fun c5 => ?_)
    · have hm := ifp c5 hm
      refine oX_aload_n dJ8_startsWith_19 rfl rfl ?_
      refine oX_getFS fJ8_9 (oDS_t ht) dJ8_startsWith_20 ?_
      refine oX_astore_n (ls' := [(3, vR (FR t.1 t.2 0)), (0, vR (some t)), (1, vR x1), (2, vI x2)]) dJ8_startsWith_23 rfl (by decide) rfl ?_
      refine oX_aload_n dJ8_startsWith_24 rfl rfl ?_
      refine oX_getFS fJ8_9 e3 dJ8_startsWith_25 ?_
      refine oX_astore (ls' := [(4, vR (FR a3.1 a3.2 0)), (3, vR (FR t.1 t.2 0)), (0, vR (some t)), (1, vR x1), (2, vI x2)]) dJ8_startsWith_28 (by decide) rfl ?_
      refine oX_iconst (v := (0 : Int32)) dJ8_startsWith_30 (by decide) ?_
      refine oX_istore (ls' := [(5, vI (0 : Int32)), (4, vR (FR a3.1 a3.2 0)), (3, vR (FR t.1 t.2 0)), (0, vR (some t)), (1, vR x1), (2, vI x2)]) dJ8_startsWith_31 (by decide) rfl ?_
      refine oX_aload dJ8_startsWith_33 rfl ?_
      obtain ⟨a6, e6, hm⟩ := bd_s hm
      refine oX_alen2 2 (by decide) e6 dJ8_startsWith_35 ?_
      refine oX_istore (ls' := [(6, vI (Int32.ofNat (AN a6.1 a6.2))), (5, vI (0 : Int32)), (4, vR (FR a3.1 a3.2 0)), (3, vR (FR t.1 t.2 0)), (0, vR (some t)), (1, vR x1), (2, vI x2)]) dJ8_startsWith_36 (by decide) rfl ?_
      refine oX_aload_n dJ8_startsWith_38 rfl rfl ?_
      obtain ⟨r7, g7, hm⟩ := bd_s hm
      refine oX_cVS (as := []) dJ8_startsWith_39 rfl (oDS_t ht) rfl ok_J8_coder rfl rfl q745 q746 q747 q147 q748 (by decide) (Nat.le_of_ble_eq_true rfl) (t_J8_coder t ht g7) ?_
      refine oX_istore (ls' := [(7, vI r7), (6, vI (Int32.ofNat (AN a6.1 a6.2))), (5, vI (0 : Int32)), (4, vR (FR a3.1 a3.2 0)), (3, vR (FR t.1 t.2 0)), (0, vR (some t)), (1, vR x1), (2, vI x2)]) dJ8_startsWith_42 (by decide) rfl ?_
      refine oX_iload dJ8_startsWith_44 rfl ?_
      refine oX_aload_n dJ8_startsWith_46 rfl rfl ?_
      obtain ⟨r8, g8, hm⟩ := bd_s hm
      refine oX_cVS (as := []) dJ8_startsWith_47 rfl e3 rfl ok_J8_coder rfl rfl q745 q746 q747 q147 q748 (by decide) (Nat.le_of_ble_eq_true rfl) (t_J8_coder a3 ((oDS_some e3).2) g8) ?_
      refine oX_icmp_ne (tgt := 82) dJ8_startsWith_50 (by decide) (fun c9 => ?_) (fun c9 => ?_)
      · have hm := ifp c9 hm
        refine oX_iload dJ8_startsWith_53 rfl ?_
        refine oX_iconst (v := (1 : Int32)) dJ8_startsWith_55 (by decide) ?_
        refine oX_icmp_ne (tgt := 63) dJ8_startsWith_56 (by decide) (fun c10 => ?_) (fun c10 => ?_)
        · have hm := ifp c10 hm
          refine oX_iload_n dJ8_startsWith_59 rfl rfl ?_
          refine oX_iconst (v := (1 : Int32)) dJ8_startsWith_60 (by decide) ?_
          refine oX_ishl dJ8_startsWith_61 ?_
          refine oX_istore_n (ls' := [(2, vI (x2 <<< ((1 : Int32) &&& 31))), (7, vI r7), (6, vI (Int32.ofNat (AN a6.1 a6.2))), (5, vI (0 : Int32)), (4, vR (FR a3.1 a3.2 0)), (3, vR (FR t.1 t.2 0)), (0, vR (some t)), (1, vR x1)]) dJ8_startsWith_62 rfl (by decide) rfl ?_
          exact oX_sub [0, 5, 4, 2] rfl (x_mJ8_startsWith_j63 n t ht (x2 <<< ((1 : Int32) &&& 31)) (FR t.1 t.2 0) (FR a3.1 a3.2 0) (Int32.ofNat (AN a6.1 a6.2)) hm hK)
        · have hm := ifn c10 hm
          exact oX_sub [7, 4, 3, 1] rfl (x_mJ8_startsWith_j63 n t ht x2 (FR t.1 t.2 0) (FR a3.1 a3.2 0) (Int32.ofNat (AN a6.1 a6.2)) hm hK)
      · have hm := ifn c9 hm
        refine oX_iload dJ8_startsWith_82 rfl ?_
        refine oX_if_ne (tgt := 89) dJ8_startsWith_84 (by decide) (fun c13 => ?_) (fun c13 => ?_)
        · have hm := ifp c13 hm
          refine oX_iconst (v := (0 : Int32)) dJ8_startsWith_87 (by decide) ?_
          obtain rfl := Option.some.inj hm
          exact oX_iret dJ8_startsWith_88 rfl (by decide) hK
        · have hm := ifn c13 hm
          obtain ⟨b15, g15, hm⟩ := bd_s hm
          refine oX_sub [7, 4, 3, 2, 1] rfl (l_mJ8_startsWith_b89 n t ht (FR t.1 t.2 0) (FR a3.1 a3.2 0) (Int32.ofNat (AN a6.1 a6.2)) n x2 (0 : Int32) _ g15 (fun v15 e15 => ?_) (fun v15 e15 => ?_))
          · subst e15
            have hm := el1 hm
            refine oX_iconst (v := (1 : Int32)) dJ8_startsWith_121 (by decide) ?_
            obtain rfl := Option.some.inj hm
            exact oX_iret dJ8_startsWith_122 rfl (by decide) hK
          · subst e15
            have hm := el2 hm
            refine oX_iconst (v := (0 : Int32)) dJ8_startsWith_119 (by decide) ?_
            obtain rfl := Option.some.inj hm
            exact oX_iret dJ8_startsWith_120 rfl (by decide) hK
    · have hm := ifn c5 hm
      refine oX_iconst (v := (0 : Int32)) dJ8_startsWith_17 (by decide) ?_
      obtain rfl := Option.some.inj hm
      exact oX_iret dJ8_startsWith_18 rfl (by decide) hK
theorem t_J8_startsWith {G : OhG} {FI AI : OhI} {FL AL : OhL} {FR GR AR BR : OhQ} {AN : OhN} {C : OhC} (n : Nat) (t : Nat × Nat) (ht : ohKd t.1 = 18 ∨ ohKd t.1 = 130) (x1 : OhR) (x2 : Int32) {o : Int32} (hm : mJ8_startsWith n FI FR AI AN t x1 x2 = some o) : oT G 3 iJ8_startsWith [vR (some t), vR x1, vI x2] (FI, FL, FR, GR, AI, AL, AR, BR, AN, C) (0, 0) (fun v h => v = (some (vI o)) ∧ h = (FI, FL, FR, GR, AI, AL, AR, BR, AN, C)) ohNo :=
  oT_of (by decide) rfl (Nat.le_of_ble_eq_true rfl) (x_mJ8_startsWith n t ht x1 x2 hm ⟨rfl, rfl⟩)
