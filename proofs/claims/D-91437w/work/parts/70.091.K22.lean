noncomputable section
set_option linter.unusedVariables false
set_option linter.unusedSimpArgs false
/-! PLAIN 85: nights laid (house), 4: a night is taken away -/
theorem lpK_l {α β : Type} {f : α → Option ((α ⊕ β) × (Nat × Nat))} {n : Nat} {a a' : α} {b : β} {c c2 : Nat × Nat} (h : f a = some (.inl a', c)) (h2 : lpK f n a' = some (b, c2)) : lpK f (n + 1) a = some (b, (c.1 + c2.1, c.2 + c2.2)) := by
  show (f a).bind _ = _
  rw [h]
  show oCost c (lpK f n a') = _
  rw [h2]; rfl
theorem lpK_r {α β : Type} {f : α → Option ((α ⊕ β) × (Nat × Nat))} {n : Nat} {a : α} {b : β} {c : Nat × Nat} (h : f a = some (.inr b, c)) : lpK f (n + 1) a = some (b, c) := by
  show (f a).bind _ = _
  rw [h]; rfl
section
variable {S : PSt} {Z : PZ} {w : Nat → Nat} {hour last : Int} {N : Nat} {d : Nat → Int} {na : Nat → Rf} {m t n : Nat} {C : OhC} {FI FI2 : OhI} {FR GR : OhQ} {AI A : OhI} {AR BR BR2 : OhQ} {AN : OhN}
/-- scalars of the trying, and the order, are written -/
theorem HLt.sc (q : HLt S Z w hour last N d na m t FI FR GR AI AR BR AN C) {m2 t2 : Nat} (hm2 : m2 ≤ m) (x : HLf C C FI FI2 FR FR AI A BR BR2) (f17e : FI2 0 0 17 = J ((S.nC + m2 : Nat) : Int)) (f18 : FI2 0 0 18 = FI 0 0 18) (f31 : FI2 0 0 31 = FI 0 0 31) (f32 : FI2 0 0 32 = J (t2 : Int)) (f33 : FI2 0 0 33 = FI 0 0 33) (f34 : FI2 0 0 34 = FI 0 0 34) (hA : ∀ s, s ∈ [330, 419, 420, 421, 428] → A s = AI s) (q324 : ∃ p, swA 324 p A) (b329 : BR2 329 = BR 329) (hor : ∀ k, k < S.nC + m2 → BR2 316 0 k = some ((ZN S Z na).c (ordN (fun c => (ltCa S w d hour c).beg) (S.nC + m2) k))) : HLt S Z w hour last N d na m2 t2 FI2 FR GR A AR BR2 AN C := by
  have core2 := x.core q.core q.wf
  have w2 : HWf C FR GR BR2 AN := HWf.mk q.wf.fr q.wf.gr (fun s i k r nn e => by
    by_cases z : s = 329
    · subst z; rw [b329] at e; exact q.wf.br _ _ _ _ nn e
    · rw [x.br s nn z] at e; exact q.wf.br _ _ _ _ nn e) q.wf.own q.wf.c40 q.wf.c58 q.wf.n40
  have oldC : ∀ c, c < S.nC + m → hOld C ((ZN S Z na).c c) := fun c hc => by
    by_cases z : c < S.nC
    · rw [ZN_lo z]; exact q.core.caL.old q.wf z
    · obtain ⟨k, rfl⟩ : ∃ k, c = S.nC + k := ⟨c - S.nC, by omega⟩
      rw [ZN_hi]; exact q.made k (by omega)
  refine HLt.mk core2 ?_ w2 q.sh q.ln (x.wg q.wg) q324 (f31.trans q.f31) f32 (f33.trans q.f33) (f34.trans q.f34) (fun k hk => by rw [hA 330 (by decide)]; exact q.wi k hk) (fun c r j h1 h2 h3 => by rw [hA 428 (by decide)]; exact q.kept c r j h1 h2 h3) (fun k hk => by rw [b329]; exact q.tried k (by omega)) (fun k hk => q.made k (by omega))
  refine HTb.mk (core2.toHSt.zc (fun c hc => if_pos hc)) (fun c hc => ?_) (fun i j hi hj => ?_) f17e (f18.trans q.tb.asOf) hor (fun c r hc hr => ?_) (fun c r hc hr => ?_) (fun c r hc hr => ?_)
  · have hc : c < S.nC + m2 := hc
    have y := q.tb.ca c (show c < S.nC + m by omega)
    have o := oldC c (by omega)
    have e := x.fi _ o (fun z => by have := y.kd; rw [z] at this; revert this; decide)
    exact HCl.mk y.kd (by rw [e]; exact y.num) (by rw [e]; exact y.day) (by rw [e]; exact y.kind) (by rw [e]; exact y.halves) (by rw [e]; exact y.beg) (by rw [e]; exact y.fin) y.op
  · have hi : i < S.nC + m2 := hi
    have hj : j < S.nC + m2 := hj
    exact q.tb.cinj i j (show i < S.nC + m by omega) (show j < S.nC + m by omega)
  · have hc : c < S.nC + m2 := hc
    rw [hA 419 (by decide)]; exact q.tb.cast c r (show c < S.nC + m by omega) hr
  · have hc : c < S.nC + m2 := hc
    rw [hA 420 (by decide)]; exact q.tb.ahead c r (show c < S.nC + m by omega) hr
  · have hc : c < S.nC + m2 := hc
    rw [hA 421 (by decide)]; exact q.tb.cover c r (show c < S.nC + m by omega) hr
/-- judged -/
theorem HLt.jd (q : HLt S Z w hour last N d na m t FI FR GR AI AR BR AN C) (x : eqx [323, 324, 325, 422] AI A) (q324 : ∃ p, swA 324 p A) : HLt S Z w hour last N d na m t FI FR GR A AR BR AN C ∧ HLf C C FI FI FR FR AI A BR BR := by
  have y : HLf C C FI FI FR FR AI A BR BR := HLf.mk (fun _ _ _ => rfl) (fun _ _ => rfl) (fun _ _ => rfl) (eqx_mono x (by decide)) (fun _ _ _ => rfl) (fun _ => Nat.le_refl _)
  exact ⟨q.sc (Nat.le_refl m) y q.tb.ordered rfl rfl q.f32 rfl rfl (fun s hs => x s (by intro z; revert z; revert hs; revert s; decide)) q324 rfl q.tb.order, y⟩
def tickF (FI : OhI) (t : Nat) : OhI := sA FI 0 0 (uA (FI 0 0) 32 (J (t : Int)))
theorem HLt.tick (q : HLt S Z w hour last N d na m t FI FR GR AI AR BR AN C) : HLt S Z w hour last N d na m (t + 1) (tickF FI (t + 1)) FR GR AI AR BR AN C ∧ HLf C C FI (tickF FI (t + 1)) FR FR AI AI BR BR := by
  have ne : ∀ k, k ≠ 32 → tickF FI (t + 1) 0 0 k = FI 0 0 k := fun k hk => by unfold tickF; rw [sA_same, uA_ne _ _ hk]
  have y : HLf C C FI (tickF FI (t + 1)) FR FR AI AI BR BR := HLf.mk (fun a _ h => by unfold tickF; exact sA_ne _ _ (fun z => h (Prod.ext z.1 z.2))) (fun k hk => ne k (by rintro rfl; exact hk (by decide))) (fun _ _ => rfl) eqx_refl (fun _ _ _ => rfl) (fun _ => Nat.le_refl _)
  exact ⟨q.sc (Nat.le_refl m) y ((ne 17 (by decide)).trans q.tb.ordered) (ne 18 (by decide)) (ne 31 (by decide)) (by unfold tickF; rw [sA_same, uA_same]) (ne 33 (by decide)) (ne 34 (by decide)) (fun _ _ => rfl) q.q324 rfl q.tb.order, y⟩
theorem h_leaveL (hS : PStOk S) (hn : 10000 ≤ n) (hT : PTbOk (lt S w d hour (m + 1))) (q : HLt S Z w hour last N d na (m + 1) t FI FR GR AI AR BR AN C) :
    ∃ FI2 BR2, mX1_leave n FI FR AR BR AN (some (na m)) = some (FI2, BR2) ∧ HLt S Z w hour last N d na m t FI2 FR GR AI AR BR2 AN C ∧ HLf C C FI FI2 FR FR AI AI BR BR2 := by
  have h66 : S.nC + (m + 1) ≤ 66 := hT.all
  have hz : S.nC + m < S.nC + (m + 1) := by omega
  have ea : na m = (ZN S Z na).c (S.nC + m) := ZN_hi.symm
  have hp : (lt S w d hour (m + 1)).pos (S.nC + m) < S.nC + (m + 1) := hT.pos _ hz
  have ho : (lt S w d hour (m + 1)).ord ((lt S w d hour (m + 1)).pos (S.nC + m)) = S.nC + m := hT.op _ hz
  have e17 : FI 0 0 17 = J ((S.nC + (m + 1) : Nat) : Int) := q.tb.ordered
  have hord : ∀ k, k < S.nC + (m + 1) → BR 316 0 k = some ((ZN S Z na).c ((lt S w d hour (m + 1)).ord k)) := q.tb.order
  -- the place
  have eo : (lt S w d hour (m + 1)).ord = ordN (fun c => (ltCa S w d hour c).beg) (S.nC + m + 1) := rfl
  have ep : (lt S w d hour (m + 1)).pos (S.nC + m) = insAt (fun c => (ltCa S w d hour c).beg) (ordN (fun c => (ltCa S w d hour c).beg) (S.nC + m)) (ltCa S w d hour (S.nC + m)).beg (S.nC + m) := by
    show posN (fun c => (ltCa S w d hour c).beg) (S.nC + m + 1) (S.nC + m) = _
    simp only [posN, if_true]
  generalize hP : (lt S w d hour (m + 1)).pos (S.nC + m) = p at *
  have lo : ∀ k, k < p → (lt S w d hour (m + 1)).ord k = ordN (fun c => (ltCa S w d hour c).beg) (S.nC + m) k := fun k hk => by
    rw [eo]; simp only [ordN]; rw [← ep, if_pos hk]
  have hi : ∀ k, p ≤ k → (lt S w d hour (m + 1)).ord (k + 1) = ordN (fun c => (ltCa S w d hour c).beg) (S.nC + m) k := fun k hk => by
    rw [eo]; simp only [ordN]; rw [← ep, if_neg (by omega), if_neg (by omega), Nat.add_sub_cancel]
  have ne : ∀ k, k < p → (lt S w d hour (m + 1)).ord k ≠ S.nC + m := fun k hk z => by
    rw [lo k hk] at z
    have := (ordN_all (fun c => (ltCa S w d hour c).beg) (S.nC + m)).1 k (by omega)
    omega
  have k1 : lpF (fun v => mX1_leave_b2 n FI FR AR BR AN (some (na m)) v) n (J 0) = some (J (p : Int)) := by
    apply wp_eq
    refine wp_for p (fun k a => a = J (k : Int)) ?_ (k0 := 0) rfl (by omega) (by omega)
    rintro k a hk rfl
    have hk2 : k < S.nC + (m + 1) := by omega
    have hoc : (lt S w d hour (m + 1)).ord k < S.nC + (m + 1) := hT.ord k hk2
    have nm : oNm (some ((ZN S Z na).c ((lt S w d hour (m + 1)).ord k))) (some (na m)) := by rw [ea]; exact q.tb.cNm hoc hz
    have eqc : (some ((ZN S Z na).c ((lt S w d hour (m + 1)).ord k)) = some (na m)) = ((lt S w d hour (m + 1)).ord k = S.nC + m) := by rw [ea]; exact q.tb.cEq hoc hz
    unfold mX1_leave_b2
    by_cases e : k = p
    · have e1 : (some ((ZN S Z na).c ((lt S w d hour (m + 1)).ord k)) = some (na m)) = True := by rw [eqc]; exact eq_true (by rw [e]; exact ho)
      ((repeat' (first | ((with_reducible apply wp_let); try dsimp only) | ((with_reducible apply wp_gdJ); (focus (first | ((simp (disch := omega) only [J_lit, J_add, J_sub, J_mul, J_neg, J_n, jle, jlt, jeq, jnn, jnat, Int.toNat_natCast, bJ_0, bJ_1, bft, gd_T, nar_J, nar_0, nar_1, if_true, if_false, Option.bind_some, gd_t, hord k hk2, eq_true nm, e1]); rfl) | rfl)); (focus (first | exact True.intro | (first | exact vp_J (by omega) (by omega) (by omega) | omega)))) | ((with_reducible apply wp_ifJT); (focus (first | ((simp (disch := omega) only [J_lit, J_add, J_sub, J_mul, J_neg, J_n, jle, jlt, jeq, jnn, jnat, Int.toNat_natCast, bJ_0, bJ_1, bft, gd_T, nar_J, nar_0, nar_1, if_true, if_false, Option.bind_some, gd_t, decide_eq_false_iff_not, decide_eq_true_eq, hord k hk2, eq_true nm, e1]); rfl) | rfl)); (focus (first | exact True.intro | omega))) | ((with_reducible apply wp_ifJF); (focus (first | ((simp (disch := omega) only [J_lit, J_add, J_sub, J_mul, J_neg, J_n, jle, jlt, jeq, jnn, jnat, Int.toNat_natCast, bJ_0, bJ_1, bft, gd_T, nar_J, nar_0, nar_1, if_true, if_false, Option.bind_some, gd_t, decide_eq_false_iff_not, decide_eq_true_eq, hord k hk2, eq_true nm, e1]); rfl) | rfl)); (focus (first | exact not_false | omega))) | ((with_reducible apply wp_ifJ); (focus (first | ((simp (disch := omega) only [J_lit, J_add, J_sub, J_mul, J_neg, J_n, jle, jlt, jeq, jnn, jnat, Int.toNat_natCast, bJ_0, bJ_1, bft, gd_T, nar_J, nar_0, nar_1, if_true, if_false, Option.bind_some, gd_t, decide_eq_false_iff_not, decide_eq_true_eq, hord k hk2, eq_true nm, e1]); rfl) | rfl)); all_goals intro _) | (with_reducible apply wp_some) | ((with_reducible apply wp_eli); try dsimp only) | ((with_reducible apply wp_elr); try dsimp only) | ((with_reducible apply wp_bindE); (focus ((simp (disch := omega) only [J_lit, J_add, J_sub, J_mul, J_neg, J_n, jle, jlt, jeq, jnn, jnat, Int.toNat_natCast, bJ_0, bJ_1, bft, gd_T, nar_J, nar_0, nar_1, if_true, if_false, Option.bind_some, gd_t, hord k hk2, eq_true nm, e1]); rfl)); try dsimp only) | (with_reducible apply wp_bind))); all_goals (try (simp (disch := omega) only [J_lit, J_add, J_sub, J_mul, J_neg, J_n, jle, jlt, jeq, jnn, jnat, Int.toNat_natCast, bJ_0, bJ_1, bft, gd_T, nar_J, nar_0, nar_1, if_true, if_false, Option.bind_some, gd_t, hord k hk2, eq_true nm, e1])))
      rw [e]; exact rfl
    · have e1 : (some ((ZN S Z na).c ((lt S w d hour (m + 1)).ord k)) = some (na m)) = False := by rw [eqc]; exact eq_false (ne k (by omega))
      ((repeat' (first | ((with_reducible apply wp_let); try dsimp only) | ((with_reducible apply wp_gdJ); (focus (first | ((simp (disch := omega) only [J_lit, J_add, J_sub, J_mul, J_neg, J_n, jle, jlt, jeq, jnn, jnat, Int.toNat_natCast, bJ_0, bJ_1, bft, gd_T, nar_J, nar_0, nar_1, if_true, if_false, Option.bind_some, gd_t, hord k hk2, eq_true nm, e1]); rfl) | rfl)); (focus (first | exact True.intro | (first | exact vp_J (by omega) (by omega) (by omega) | omega)))) | ((with_reducible apply wp_ifJT); (focus (first | ((simp (disch := omega) only [J_lit, J_add, J_sub, J_mul, J_neg, J_n, jle, jlt, jeq, jnn, jnat, Int.toNat_natCast, bJ_0, bJ_1, bft, gd_T, nar_J, nar_0, nar_1, if_true, if_false, Option.bind_some, gd_t, decide_eq_false_iff_not, decide_eq_true_eq, hord k hk2, eq_true nm, e1]); rfl) | rfl)); (focus (first | exact True.intro | omega))) | ((with_reducible apply wp_ifJF); (focus (first | ((simp (disch := omega) only [J_lit, J_add, J_sub, J_mul, J_neg, J_n, jle, jlt, jeq, jnn, jnat, Int.toNat_natCast, bJ_0, bJ_1, bft, gd_T, nar_J, nar_0, nar_1, if_true, if_false, Option.bind_some, gd_t, decide_eq_false_iff_not, decide_eq_true_eq, hord k hk2, eq_true nm, e1]); rfl) | rfl)); (focus (first | exact not_false | omega))) | ((with_reducible apply wp_ifJ); (focus (first | ((simp (disch := omega) only [J_lit, J_add, J_sub, J_mul, J_neg, J_n, jle, jlt, jeq, jnn, jnat, Int.toNat_natCast, bJ_0, bJ_1, bft, gd_T, nar_J, nar_0, nar_1, if_true, if_false, Option.bind_some, gd_t, decide_eq_false_iff_not, decide_eq_true_eq, hord k hk2, eq_true nm, e1]); rfl) | rfl)); all_goals intro _) | (with_reducible apply wp_some) | ((with_reducible apply wp_eli); try dsimp only) | ((with_reducible apply wp_elr); try dsimp only) | ((with_reducible apply wp_bindE); (focus ((simp (disch := omega) only [J_lit, J_add, J_sub, J_mul, J_neg, J_n, jle, jlt, jeq, jnn, jnat, Int.toNat_natCast, bJ_0, bJ_1, bft, gd_T, nar_J, nar_0, nar_1, if_true, if_false, Option.bind_some, gd_t, hord k hk2, eq_true nm, e1]); rfl)); try dsimp only) | (with_reducible apply wp_bind))); all_goals (try (simp (disch := omega) only [J_lit, J_add, J_sub, J_mul, J_neg, J_n, jle, jlt, jeq, jnn, jnat, Int.toNat_natCast, bJ_0, bJ_1, bft, gd_T, nar_J, nar_0, nar_1, if_true, if_false, Option.bind_some, gd_t, hord k hk2, eq_true nm, e1])))
      exact ⟨by omega, rfl⟩
  have f4 : ∀ v, f17 FI v 0 0 17 = v := fun v => f17_at _ _
  have k2 : wp (lpF (fun v : Int32 × OhQ => mX1_leave_b30 n (f17 FI (J ((S.nC + m : Nat) : Int))) FR AR v.2 AN v.1) n (J (p : Int), BR)) (fun B => (∀ s, s ≠ 316 → B s = BR s) ∧ ∀ k, k < S.nC + m → B 316 0 k = some ((ZN S Z na).c (ordN (fun c => (ltCa S w d hour c).beg) (S.nC + m) k))) := by
    refine wp_for (S.nC + m) (fun k a => ∃ B, a = (J (k : Int), B) ∧ p ≤ k ∧ (∀ s, s ≠ 316 → B s = BR s) ∧ (∀ j, j < k → B 316 0 j = some ((ZN S Z na).c (ordN (fun c => (ltCa S w d hour c).beg) (S.nC + m) j))) ∧ ∀ j, k ≤ j → B 316 0 j = BR 316 0 j) ?_ (k0 := p) ⟨BR, rfl, Nat.le_refl _, fun _ _ => rfl, fun j hj => by rw [hord j (by omega), lo j hj], fun _ _ => rfl⟩ (by omega) (by omega)
    rintro k a hk ⟨B, rfl, hpk, b1, b2, b3⟩
    dsimp only
    unfold mX1_leave_b30
    by_cases e : k = S.nC + m
    · subst e
      ((repeat' (first | ((with_reducible apply wp_let); try dsimp only) | ((with_reducible apply wp_gdJ); (focus (first | ((simp (disch := omega) only [J_lit, J_add, J_sub, J_mul, J_neg, J_n, jle, jlt, jeq, jnn, jnat, Int.toNat_natCast, bJ_0, bJ_1, bft, gd_T, nar_J, nar_0, nar_1, if_true, if_false, Option.bind_some, gd_t, f4]); rfl) | rfl)); (focus (first | exact True.intro | (first | exact vp_J (by omega) (by omega) (by omega) | omega)))) | ((with_reducible apply wp_ifJT); (focus (first | ((simp (disch := omega) only [J_lit, J_add, J_sub, J_mul, J_neg, J_n, jle, jlt, jeq, jnn, jnat, Int.toNat_natCast, bJ_0, bJ_1, bft, gd_T, nar_J, nar_0, nar_1, if_true, if_false, Option.bind_some, gd_t, decide_eq_false_iff_not, decide_eq_true_eq, f4]); rfl) | rfl)); (focus (first | exact True.intro | omega))) | ((with_reducible apply wp_ifJF); (focus (first | ((simp (disch := omega) only [J_lit, J_add, J_sub, J_mul, J_neg, J_n, jle, jlt, jeq, jnn, jnat, Int.toNat_natCast, bJ_0, bJ_1, bft, gd_T, nar_J, nar_0, nar_1, if_true, if_false, Option.bind_some, gd_t, decide_eq_false_iff_not, decide_eq_true_eq, f4]); rfl) | rfl)); (focus (first | exact not_false | omega))) | ((with_reducible apply wp_ifJ); (focus (first | ((simp (disch := omega) only [J_lit, J_add, J_sub, J_mul, J_neg, J_n, jle, jlt, jeq, jnn, jnat, Int.toNat_natCast, bJ_0, bJ_1, bft, gd_T, nar_J, nar_0, nar_1, if_true, if_false, Option.bind_some, gd_t, decide_eq_false_iff_not, decide_eq_true_eq, f4]); rfl) | rfl)); all_goals intro _) | (with_reducible apply wp_some) | ((with_reducible apply wp_eli); try dsimp only) | ((with_reducible apply wp_elr); try dsimp only) | ((with_reducible apply wp_bindE); (focus ((simp (disch := omega) only [J_lit, J_add, J_sub, J_mul, J_neg, J_n, jle, jlt, jeq, jnn, jnat, Int.toNat_natCast, bJ_0, bJ_1, bft, gd_T, nar_J, nar_0, nar_1, if_true, if_false, Option.bind_some, gd_t, f4]); rfl)); try dsimp only) | (with_reducible apply wp_bind))); all_goals (try (simp (disch := omega) only [J_lit, J_add, J_sub, J_mul, J_neg, J_n, jle, jlt, jeq, jnn, jnat, Int.toNat_natCast, bJ_0, bJ_1, bft, gd_T, nar_J, nar_0, nar_1, if_true, if_false, Option.bind_some, gd_t, f4])))
      exact ⟨b1, b2⟩
    · have e1 : B 316 0 (k + 1) = some ((ZN S Z na).c (ordN (fun c => (ltCa S w d hour c).beg) (S.nC + m) k)) := by rw [b3 (k + 1) (by omega), hord (k + 1) (by omega), hi k hpk]
      have e2 : ((k : Int) + 1).toNat = k + 1 := rfl
      have oc : ordN (fun c => (ltCa S w d hour c).beg) (S.nC + m) k < S.nC + (m + 1) := by
        have := (ordN_all (fun c => (ltCa S w d hour c).beg) (S.nC + m)).1 k (by omega)
        omega
      have e3 : (∃ b, oD 14 (some ((ZN S Z na).c (ordN (fun c => (ltCa S w d hour c).beg) (S.nC + m) k))) = some b) = True := eq_true ⟨_, q.tb.cD oc⟩
      ((repeat' (first | ((with_reducible apply wp_let); try dsimp only) | ((with_reducible apply wp_gdJ); (focus (first | ((simp (disch := omega) only [J_lit, J_add, J_sub, J_mul, J_neg, J_n, jle, jlt, jeq, jnn, jnat, Int.toNat_natCast, bJ_0, bJ_1, bft, gd_T, nar_J, nar_0, nar_1, if_true, if_false, Option.bind_some, gd_t, f4, e2, e1, e3, or_true]); rfl) | rfl)); (focus (first | exact True.intro | (first | exact vp_J (by omega) (by omega) (by omega) | omega)))) | ((with_reducible apply wp_ifJT); (focus (first | ((simp (disch := omega) only [J_lit, J_add, J_sub, J_mul, J_neg, J_n, jle, jlt, jeq, jnn, jnat, Int.toNat_natCast, bJ_0, bJ_1, bft, gd_T, nar_J, nar_0, nar_1, if_true, if_false, Option.bind_some, gd_t, decide_eq_false_iff_not, decide_eq_true_eq, f4, e2, e1, e3, or_true]); rfl) | rfl)); (focus (first | exact True.intro | omega))) | ((with_reducible apply wp_ifJF); (focus (first | ((simp (disch := omega) only [J_lit, J_add, J_sub, J_mul, J_neg, J_n, jle, jlt, jeq, jnn, jnat, Int.toNat_natCast, bJ_0, bJ_1, bft, gd_T, nar_J, nar_0, nar_1, if_true, if_false, Option.bind_some, gd_t, decide_eq_false_iff_not, decide_eq_true_eq, f4, e2, e1, e3, or_true]); rfl) | rfl)); (focus (first | exact not_false | omega))) | ((with_reducible apply wp_ifJ); (focus (first | ((simp (disch := omega) only [J_lit, J_add, J_sub, J_mul, J_neg, J_n, jle, jlt, jeq, jnn, jnat, Int.toNat_natCast, bJ_0, bJ_1, bft, gd_T, nar_J, nar_0, nar_1, if_true, if_false, Option.bind_some, gd_t, decide_eq_false_iff_not, decide_eq_true_eq, f4, e2, e1, e3, or_true]); rfl) | rfl)); all_goals intro _) | (with_reducible apply wp_some) | ((with_reducible apply wp_eli); try dsimp only) | ((with_reducible apply wp_elr); try dsimp only) | ((with_reducible apply wp_bindE); (focus ((simp (disch := omega) only [J_lit, J_add, J_sub, J_mul, J_neg, J_n, jle, jlt, jeq, jnn, jnat, Int.toNat_natCast, bJ_0, bJ_1, bft, gd_T, nar_J, nar_0, nar_1, if_true, if_false, Option.bind_some, gd_t, f4, e2, e1, e3, or_true]); rfl)); try dsimp only) | (with_reducible apply wp_bind))); all_goals (try (simp (disch := omega) only [J_lit, J_add, J_sub, J_mul, J_neg, J_n, jle, jlt, jeq, jnn, jnat, Int.toNat_natCast, bJ_0, bJ_1, bft, gd_T, nar_J, nar_0, nar_1, if_true, if_false, Option.bind_some, gd_t, f4, e2, e1, e3, or_true])))
      refine ⟨by omega, _, rfl, by omega, fun s hs => by rw [sA_site _ _ _ hs]; exact b1 s hs, fun j hj => ?_, fun j hj => ?_⟩
      · rw [sA_same]
        by_cases z : j = k
        · subst z; rw [uA_same]
        · rw [uA_ne _ _ z]; exact b2 j (by omega)
      · rw [sA_same, uA_ne _ _ (by omega)]; exact b3 j (by omega)
  obtain ⟨B, eB, b1, b2⟩ := k2
  have x : HLf C C FI (f17 FI (J ((S.nC + m : Nat) : Int))) FR FR AI AI BR B := HLf.mk (fun a _ h => by unfold f17; exact sA_ne _ _ (fun z => h (Prod.ext z.1 z.2))) (fun k hk => f17_ne _ _ (by rintro rfl; exact hk (by decide))) (fun _ _ => rfl) eqx_refl (fun s h1 _ => b1 s h1) (fun _ => Nat.le_refl _)
  refine ⟨f17 FI (J ((S.nC + m : Nat) : Int)), B, wp_eq ?_, q.sc (Nat.le_succ m) x (f4 _) (f17_ne _ _ (by decide)) (f17_ne _ _ (by decide)) ((f17_ne _ _ (by decide)).trans q.f32) (f17_ne _ _ (by decide)) (f17_ne _ _ (by decide)) (fun _ _ => rfl) q.q324 (b1 329 (by decide)) b2, x⟩
  have e18 : sA FI 0 0 (uA (FI 0 0) 17 (J (((S.nC + (m + 1) : Nat) : Int) - 1))) = f17 FI (J ((S.nC + m : Nat) : Int)) := by
    unfold f17
    rw [show ((S.nC + (m + 1) : Nat) : Int) - 1 = ((S.nC + m : Nat) : Int) by omega]
  unfold mX1_leave
  ((repeat' (first | ((with_reducible apply wp_let); try dsimp only) | ((with_reducible apply wp_gdJ); (focus (first | ((simp (disch := omega) only [J_lit, J_add, J_sub, J_mul, J_neg, J_n, jle, jlt, jeq, jnn, jnat, Int.toNat_natCast, bJ_0, bJ_1, bft, gd_T, nar_J, nar_0, nar_1, if_true, if_false, Option.bind_some, gd_t, k1, e17, e18, eB]); rfl) | rfl)); (focus (first | exact True.intro | (first | exact vp_J (by omega) (by omega) (by omega) | omega)))) | ((with_reducible apply wp_ifJT); (focus (first | ((simp (disch := omega) only [J_lit, J_add, J_sub, J_mul, J_neg, J_n, jle, jlt, jeq, jnn, jnat, Int.toNat_natCast, bJ_0, bJ_1, bft, gd_T, nar_J, nar_0, nar_1, if_true, if_false, Option.bind_some, gd_t, decide_eq_false_iff_not, decide_eq_true_eq, k1, e17, e18, eB]); rfl) | rfl)); (focus (first | exact True.intro | omega))) | ((with_reducible apply wp_ifJF); (focus (first | ((simp (disch := omega) only [J_lit, J_add, J_sub, J_mul, J_neg, J_n, jle, jlt, jeq, jnn, jnat, Int.toNat_natCast, bJ_0, bJ_1, bft, gd_T, nar_J, nar_0, nar_1, if_true, if_false, Option.bind_some, gd_t, decide_eq_false_iff_not, decide_eq_true_eq, k1, e17, e18, eB]); rfl) | rfl)); (focus (first | exact not_false | omega))) | ((with_reducible apply wp_ifJ); (focus (first | ((simp (disch := omega) only [J_lit, J_add, J_sub, J_mul, J_neg, J_n, jle, jlt, jeq, jnn, jnat, Int.toNat_natCast, bJ_0, bJ_1, bft, gd_T, nar_J, nar_0, nar_1, if_true, if_false, Option.bind_some, gd_t, decide_eq_false_iff_not, decide_eq_true_eq, k1, e17, e18, eB]); rfl) | rfl)); all_goals intro _) | (with_reducible apply wp_some) | ((with_reducible apply wp_eli); try dsimp only) | ((with_reducible apply wp_elr); try dsimp only) | ((with_reducible apply wp_bindE); (focus ((simp (disch := omega) only [J_lit, J_add, J_sub, J_mul, J_neg, J_n, jle, jlt, jeq, jnn, jnat, Int.toNat_natCast, bJ_0, bJ_1, bft, gd_T, nar_J, nar_0, nar_1, if_true, if_false, Option.bind_some, gd_t, k1, e17, e18, eB]); rfl)); try dsimp only) | (with_reducible apply wp_bind))); all_goals (try (simp (disch := omega) only [J_lit, J_add, J_sub, J_mul, J_neg, J_n, jle, jlt, jeq, jnn, jnat, Int.toNat_natCast, bJ_0, bJ_1, bft, gd_T, nar_J, nar_0, nar_1, if_true, if_false, Option.bind_some, gd_t, k1, e17, e18, eB])))
end
end
