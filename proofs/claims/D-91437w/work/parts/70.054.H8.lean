noncomputable section
set_option linter.unusedVariables false
set_option linter.unusedSimpArgs false
/-! PLAIN 48: what one earns by a call (house) -/
section
variable {T : PTb} {Z : PZ} {FI : OhI} {FR GR : OhQ} {AI : OhI} {AR BR : OhQ} {AN : OhN} {n : Nat}
theorem nights_30 (hT : PTbOk T) {s : Int} {c : Nat} (hc : c < T.all) : T.nights s c 30 = T.nights s c 1000 := by
  unfold PTb.nights
  have hb := hT.b hc
  refine sumN_congr fun k hk => ?_
  have := hT.b (hT.ord k (by omega))
  by_cases q : (T.ca (T.ord k)).kind = 3 ∧ T.isCast s (T.ord k) = true
  · rw [if_pos ⟨q.1, by omega, q.2⟩, if_pos ⟨q.1, by omega, q.2⟩]
  · rw [if_neg (fun z => q ⟨z.1, z.2.2⟩), if_neg (fun z => q ⟨z.1, z.2.2⟩)]
theorem came_cast (T : PTb) (s : Int) (c : Nat) (h : T.came s c = true) : T.isCast s c = true := by
  unfold PTb.came at h
  obtain ⟨k, hk, q⟩ := anyN_iff.mp h
  simp only [Bool.and_eq_true] at q
  exact anyN_of hk q.1.1
theorem HTb.sD (h : HTb T Z FI FR GR AI BR AN) {s : Nat} (hs : s < T.S.nS) : oD 6 (some (Z.s s)) = some (Z.s s) := oD_of (h.sg s hs).kd
theorem h_feeOf1 (h : HTb T Z FI FR GR AI BR AN) (hT : PTbOk T) (hn : 10000 ≤ n) {s c : Nat} (hs : s < T.S.nS) (hc : c < T.all) : lpF (fun v : Int32 × Int32 × Int32 => mX1_feeOf_b8 n FI FR GR AI AR BR AN (some (Z.s s)) (some (Z.c c)) v.1 v.2.1 v.2.2) n (J 0, J 0, J 0) = some (bJ (T.covers s c), bJ (T.came s c)) := by
  have h66 := hT.all
  have hb := hT.b hc
  have hS := hT.S.nS
  refine wp_fold (fun k => (bJ (anyN k fun r => T.cover c r == (s : Int)), bJ (anyN k fun r => T.cast c r == (s : Int) && (0 ≤ T.ahead c r) && !(T.ahead c r == (s : Int))), J (k : Int))) _ (T.nr c) ?_ ?_ (by omega) rfl
  · intro r hr
    have hb1 := hT.cast c r hc (by omega)
    have hb2 := hT.ahead c r hc (by omega)
    have hb3 := hT.cover c r hc (by omega)
    dsimp only
    unfold mX1_feeOf_b8 mX1_feeOf_j40 mX1_feeOf_j45
    cases h1 : anyN r (fun r => T.cover c r == (s : Int)) <;> cases h2 : anyN r (fun r => T.cast c r == (s : Int) && decide (0 ≤ T.ahead c r) && !(T.ahead c r == (s : Int)))
    all_goals ((repeat' (first | ((with_reducible apply wp_let); try dsimp only) | ((with_reducible apply wp_gdJ); (focus (first | ((simp (disch := omega) only [J_lit, J_add, J_sub, J_mul, J_neg, J_n, jle, jlt, jeq, jnn, jnat, Int.toNat_natCast, bJ_0, bJ_1, bft, gd_T, nar_J, nar_0, nar_1, if_true, if_false, Option.bind_some, gd_t, h.cD hc, h.sD hs, h_roles h hT hc, bJ_t, bJ_f, (h.ca c hc).num, (h.sg s hs).num, h.cover c r hc (by omega), h.cast c r hc (by omega), h.ahead c r hc (by omega)]); rfl) | rfl)); (focus (first | exact True.intro | (first | exact vp_J (by omega) (by omega) (by omega) | omega)))) | ((with_reducible apply wp_ifJT); (focus (first | ((simp (disch := omega) only [J_lit, J_add, J_sub, J_mul, J_neg, J_n, jle, jlt, jeq, jnn, jnat, Int.toNat_natCast, bJ_0, bJ_1, bft, gd_T, nar_J, nar_0, nar_1, if_true, if_false, Option.bind_some, gd_t, decide_eq_false_iff_not, decide_eq_true_eq, h.cD hc, h.sD hs, h_roles h hT hc, bJ_t, bJ_f, (h.ca c hc).num, (h.sg s hs).num, h.cover c r hc (by omega), h.cast c r hc (by omega), h.ahead c r hc (by omega)]); rfl) | rfl)); (focus (first | exact True.intro | omega))) | ((with_reducible apply wp_ifJF); (focus (first | ((simp (disch := omega) only [J_lit, J_add, J_sub, J_mul, J_neg, J_n, jle, jlt, jeq, jnn, jnat, Int.toNat_natCast, bJ_0, bJ_1, bft, gd_T, nar_J, nar_0, nar_1, if_true, if_false, Option.bind_some, gd_t, decide_eq_false_iff_not, decide_eq_true_eq, h.cD hc, h.sD hs, h_roles h hT hc, bJ_t, bJ_f, (h.ca c hc).num, (h.sg s hs).num, h.cover c r hc (by omega), h.cast c r hc (by omega), h.ahead c r hc (by omega)]); rfl) | rfl)); (focus (first | exact not_false | omega))) | ((with_reducible apply wp_ifJ); (focus (first | ((simp (disch := omega) only [J_lit, J_add, J_sub, J_mul, J_neg, J_n, jle, jlt, jeq, jnn, jnat, Int.toNat_natCast, bJ_0, bJ_1, bft, gd_T, nar_J, nar_0, nar_1, if_true, if_false, Option.bind_some, gd_t, decide_eq_false_iff_not, decide_eq_true_eq, h.cD hc, h.sD hs, h_roles h hT hc, bJ_t, bJ_f, (h.ca c hc).num, (h.sg s hs).num, h.cover c r hc (by omega), h.cast c r hc (by omega), h.ahead c r hc (by omega)]); rfl) | rfl)); all_goals intro _) | (with_reducible apply wp_some) | ((with_reducible apply wp_eli); try dsimp only) | ((with_reducible apply wp_elr); try dsimp only) | ((with_reducible apply wp_bindE); (focus ((simp (disch := omega) only [J_lit, J_add, J_sub, J_mul, J_neg, J_n, jle, jlt, jeq, jnn, jnat, Int.toNat_natCast, bJ_0, bJ_1, bft, gd_T, nar_J, nar_0, nar_1, if_true, if_false, Option.bind_some, gd_t, h.cD hc, h.sD hs, h_roles h hT hc, bJ_t, bJ_f, (h.ca c hc).num, (h.sg s hs).num, h.cover c r hc (by omega), h.cast c r hc (by omega), h.ahead c r hc (by omega)]); rfl)); try dsimp only) | (with_reducible apply wp_bind))); all_goals (try (simp (disch := omega) only [J_lit, J_add, J_sub, J_mul, J_neg, J_n, jle, jlt, jeq, jnn, jnat, Int.toNat_natCast, bJ_0, bJ_1, bft, gd_T, nar_J, nar_0, nar_1, if_true, if_false, Option.bind_some, gd_t, h.cD hc, h.sD hs, h_roles h hT hc, bJ_t, bJ_f, (h.ca c hc).num, (h.sg s hs).num, h.cover c r hc (by omega), h.cast c r hc (by omega), h.ahead c r hc (by omega)])))
    all_goals (simp only [LR_l, anyN, h1, h2, Prod.mk.injEq, Bool.false_or, Bool.true_or])
    all_goals (refine ⟨?_, ?_, congrArg J (by omega)⟩)
    all_goals (first
      | rfl
      | (refine bJ_e0 ?_; simp only [Bool.and_eq_false_iff, beq_eq_false_iff_ne, decide_eq_false_iff_not, Bool.not_eq_false', beq_iff_eq, ne_eq]; omega)
      | (refine bJ_e1 ?_; simp only [Bool.and_eq_true, beq_iff_eq, decide_eq_true_eq, Bool.not_eq_true', beq_eq_false_iff_ne, ne_eq]; omega))
  · dsimp only
    unfold mX1_feeOf_b8
    ((repeat' (first | ((with_reducible apply wp_let); try dsimp only) | ((with_reducible apply wp_gdJ); (focus (first | ((simp (disch := omega) only [J_lit, J_add, J_sub, J_mul, J_neg, J_n, jle, jlt, jeq, jnn, jnat, Int.toNat_natCast, bJ_0, bJ_1, bft, gd_T, nar_J, nar_0, nar_1, if_true, if_false, Option.bind_some, gd_t, h.cD hc, h_roles h hT hc]); rfl) | rfl)); (focus (first | exact True.intro | (first | exact vp_J (by omega) (by omega) (by omega) | omega)))) | ((with_reducible apply wp_ifJT); (focus (first | ((simp (disch := omega) only [J_lit, J_add, J_sub, J_mul, J_neg, J_n, jle, jlt, jeq, jnn, jnat, Int.toNat_natCast, bJ_0, bJ_1, bft, gd_T, nar_J, nar_0, nar_1, if_true, if_false, Option.bind_some, gd_t, decide_eq_false_iff_not, decide_eq_true_eq, h.cD hc, h_roles h hT hc]); rfl) | rfl)); (focus (first | exact True.intro | omega))) | ((with_reducible apply wp_ifJF); (focus (first | ((simp (disch := omega) only [J_lit, J_add, J_sub, J_mul, J_neg, J_n, jle, jlt, jeq, jnn, jnat, Int.toNat_natCast, bJ_0, bJ_1, bft, gd_T, nar_J, nar_0, nar_1, if_true, if_false, Option.bind_some, gd_t, decide_eq_false_iff_not, decide_eq_true_eq, h.cD hc, h_roles h hT hc]); rfl) | rfl)); (focus (first | exact not_false | omega))) | ((with_reducible apply wp_ifJ); (focus (first | ((simp (disch := omega) only [J_lit, J_add, J_sub, J_mul, J_neg, J_n, jle, jlt, jeq, jnn, jnat, Int.toNat_natCast, bJ_0, bJ_1, bft, gd_T, nar_J, nar_0, nar_1, if_true, if_false, Option.bind_some, gd_t, decide_eq_false_iff_not, decide_eq_true_eq, h.cD hc, h_roles h hT hc]); rfl) | rfl)); all_goals intro _) | (with_reducible apply wp_some) | ((with_reducible apply wp_eli); try dsimp only) | ((with_reducible apply wp_elr); try dsimp only) | ((with_reducible apply wp_bindE); (focus ((simp (disch := omega) only [J_lit, J_add, J_sub, J_mul, J_neg, J_n, jle, jlt, jeq, jnn, jnat, Int.toNat_natCast, bJ_0, bJ_1, bft, gd_T, nar_J, nar_0, nar_1, if_true, if_false, Option.bind_some, gd_t, h.cD hc, h_roles h hT hc]); rfl)); try dsimp only) | (with_reducible apply wp_bind))); all_goals (try (simp (disch := omega) only [J_lit, J_add, J_sub, J_mul, J_neg, J_n, jle, jlt, jeq, jnn, jnat, Int.toNat_natCast, bJ_0, bJ_1, bft, gd_T, nar_J, nar_0, nar_1, if_true, if_false, Option.bind_some, gd_t, h.cD hc, h_roles h hT hc])))
    rfl
theorem h_feeOf (h : HTb T Z FI FR GR AI BR AN) (hT : PTbOk T) (hn : 10000 ≤ n) {s c : Nat} (hs : s < T.S.nS) (hc : c < T.all) :
    ∃ w, mX1_feeOf n FI FR GR AI AR BR AN (some (Z.s s)) (some (Z.c c)) = some (J (T.fee s c), sA FI 327 0 w) := by
  have h66 := hT.all
  have hb := hT.b hc
  have hS := hT.S.nS
  have k1 := h_feeOf1 (n := n) (AR := AR) h hT hn hs hc
  have e1 := h_isCast (n := n) (AR := AR) h hT hn (s := (s : Int)) (by omega) (by omega) hc
  have e2 := h_isIll (n := n) (AR := AR) h hT hn (s := s) (d := (T.ca c).day) (by omega) (by omega)
  have self : FI = sA FI 327 0 (FI 327 0) := by
    funext a b; by_cases q : a = 327 ∧ b = 0
    · rw [q.1, q.2, sA_same]
    · rw [sA_ne _ _ q]
  by_cases hz : (T.isCast s c = false ∧ T.covers s c = false) ∨ T.isIll s (T.ca c).day = true
  · refine ⟨FI 327 0, wp_eq ?_⟩
    rw [← self]
    clear self
    unfold mX1_feeOf mX1_feeOf_j138 PTb.fee
    rw [if_pos hz]
    ((repeat' (first | ((with_reducible apply wp_let); try dsimp only) | ((with_reducible apply wp_gdJ); (focus (first | ((simp (disch := omega) only [J_lit, J_add, J_sub, J_mul, J_neg, J_n, jle, jlt, jeq, jnn, jnat, Int.toNat_natCast, bJ_0, bJ_1, bft, gd_T, nar_J, nar_0, nar_1, if_true, if_false, Option.bind_some, gd_t, k1, h.sD hs, h.cD hc, (h.sg s hs).num, (h.ca c hc).day, e1, e2]); rfl) | rfl)); (focus (first | exact True.intro | (first | exact vp_J (by omega) (by omega) (by omega) | omega)))) | ((with_reducible apply wp_ifJT); (focus (first | ((simp (disch := omega) only [J_lit, J_add, J_sub, J_mul, J_neg, J_n, jle, jlt, jeq, jnn, jnat, Int.toNat_natCast, bJ_0, bJ_1, bft, gd_T, nar_J, nar_0, nar_1, if_true, if_false, Option.bind_some, gd_t, decide_eq_false_iff_not, decide_eq_true_eq, k1, h.sD hs, h.cD hc, (h.sg s hs).num, (h.ca c hc).day, e1, e2]); rfl) | rfl)); (focus (first | exact True.intro | omega))) | ((with_reducible apply wp_ifJF); (focus (first | ((simp (disch := omega) only [J_lit, J_add, J_sub, J_mul, J_neg, J_n, jle, jlt, jeq, jnn, jnat, Int.toNat_natCast, bJ_0, bJ_1, bft, gd_T, nar_J, nar_0, nar_1, if_true, if_false, Option.bind_some, gd_t, decide_eq_false_iff_not, decide_eq_true_eq, k1, h.sD hs, h.cD hc, (h.sg s hs).num, (h.ca c hc).day, e1, e2]); rfl) | rfl)); (focus (first | exact not_false | omega))) | ((with_reducible apply wp_ifJ); (focus (first | ((simp (disch := omega) only [J_lit, J_add, J_sub, J_mul, J_neg, J_n, jle, jlt, jeq, jnn, jnat, Int.toNat_natCast, bJ_0, bJ_1, bft, gd_T, nar_J, nar_0, nar_1, if_true, if_false, Option.bind_some, gd_t, decide_eq_false_iff_not, decide_eq_true_eq, k1, h.sD hs, h.cD hc, (h.sg s hs).num, (h.ca c hc).day, e1, e2]); rfl) | rfl)); all_goals intro _) | (with_reducible apply wp_some) | ((with_reducible apply wp_eli); try dsimp only) | ((with_reducible apply wp_elr); try dsimp only) | ((with_reducible apply wp_bindE); (focus ((simp (disch := omega) only [J_lit, J_add, J_sub, J_mul, J_neg, J_n, jle, jlt, jeq, jnn, jnat, Int.toNat_natCast, bJ_0, bJ_1, bft, gd_T, nar_J, nar_0, nar_1, if_true, if_false, Option.bind_some, gd_t, k1, h.sD hs, h.cD hc, (h.sg s hs).num, (h.ca c hc).day, e1, e2]); rfl)); try dsimp only) | (with_reducible apply wp_bind))); all_goals (try (simp (disch := omega) only [J_lit, J_add, J_sub, J_mul, J_neg, J_n, jle, jlt, jeq, jnn, jnat, Int.toNat_natCast, bJ_0, bJ_1, bft, gd_T, nar_J, nar_0, nar_1, if_true, if_false, Option.bind_some, gd_t, k1, h.sD hs, h.cD hc, (h.sg s hs).num, (h.ca c hc).day, e1, e2])))
    all_goals (first | rfl | (exfalso; simp_all; done))
  · obtain ⟨ct, c1, c2⟩ := (h.sg s hs).ct
    have b2 := dayHours_b hT (s := s) hc
    have b3 := nights_b hT (s := s) (d := 1000) hc
    have cd := (hT.S.ct s hs).day
    have hnum : ∀ k, -2147483648 ≤ (T.ask s c).num k ∧ (T.ask s c).num k < 2147483648 := fun k => by have := ask_num_b hT (s := s) hs hc k; omega
    have eK : oD 7 (GR (Z.s s).1 (Z.s s).2 4) = some ct := by rw [c1]; exact oD_of c2.kd
    clear self
    have ne : ∀ (a : Rf) (w : Nat → Int32) (k : Nat), ohKd a.1 ≠ 3 → sA FI 327 0 w a.1 a.2 k = FI a.1 a.2 k := fun a w k q => by rw [sA_ne _ _ (by rintro ⟨q1, _⟩; rw [q1] at q; exact q (by decide))]
    have fS : ∀ w k, sA FI 327 0 w (Z.s s).1 (Z.s s).2 k = FI (Z.s s).1 (Z.s s).2 k := fun w k => ne _ w k (by rw [(h.sg s hs).kd]; decide)
    have fC : ∀ w k, sA FI 327 0 w (Z.c c).1 (Z.c c).2 k = FI (Z.c c).1 (Z.c c).2 k := fun w k => ne _ w k (by rw [(h.ca c hc).kd]; decide)
    have fK : ∀ w k, sA FI 327 0 w ct.1 ct.2 k = FI ct.1 ct.2 k := fun w k => ne _ w k (by rw [c2.kd]; decide)
    have e3 : ∀ w, mX1_nightsOf n (sA FI 327 0 w) FR AI AR BR AN (J s) (some (Z.c c)) (J 30) = some (J (T.nights s c 1000)) := fun w => by rw [h_nightsOf (h.ask w) hT hn (by omega) hc ⟨by omega, by omega⟩, nights_30 hT hc]
    have e4 : ∀ w, mX1_hoursOn n (sA FI 327 0 w) FR AI AR BR AN (J s) (some (Z.c c)) = some (J (T.dayHours s c)) := fun w => h_hoursOn (h.ask w) hT hn (by omega) hc
    have e5 : ∀ w, mX15_hours (sA FI 327 0 w) (Z.c c) = some (J (T.long c)) := fun w => h_hours (h.ask w) hc
    have e6 : ∀ w, HAsk (T.ask s c) (sA FI 327 0 w) → mX8_earns n (sA FI 327 0 w) FR GR AR BR AN ct (some (327, 0)) = some (J (T.earns s c)) := fun w ha => by
      obtain ⟨ct', c1', c2'⟩ := ((h.ask w).sg s hs).ct
      have : ct' = ct := by rw [c1] at c1'; exact (Option.some.inj c1').symm
      subst this
      have kb : 0 ≤ (T.ask s c).kind ∧ (T.ask s c).kind ≤ 3 := ⟨hb.2.2.2.2.2.1.1, hb.2.2.2.2.2.1.2⟩
      exact h_earns c2' (hT.S.ct s hs) ha kb hnum hn
    have hfee : T.fee s c = T.earns s c := by unfold PTb.fee; rw [if_neg hz]
    have hlate : ∀ b : Bool, b = decide (24 * (T.ca c).day + 22 < (T.ca c).fin) → True := fun _ _ => trivial
    have iZ : T.isIll s (T.ca c).day = false := by
      cases q : T.isIll s (T.ca c).day with
      | false => rfl
      | true => exact absurd (.inr q) hz
    rw [iZ] at e2
    have main : ∃ w, mX1_feeOf_j138 n FI FR GR AI AR BR AN (some (Z.s s)) (some (Z.c c)) (bJ (T.covers s c)) (bJ (T.came s c)) (bJ (T.isCast s c)) = some (J (T.earns s c), sA FI 327 0 w) := by
      have cm := came_cast T s c
      have askE : ∀ w : Nat → Int32, w 0 = J (T.ca c).kind → w 1 = J (T.long c) → w 4 = bJ (decide (24 * (T.ca c).day + 22 < (T.ca c).fin)) → w 5 = bJ (T.covers s c) → w 6 = bJ (T.came s c) → w 2 = J (if T.isCast s c = true ∧ (T.ca c).kind = 3 then T.nights s c 1000 else 0) → w 3 = J (if T.isCast s c = true then max 0 (T.dayHours s c - (T.S.ct s).day) else 0) → HAsk (T.ask s c) (sA FI 327 0 w) := by
        intro w w0 w1 w4 w5 w6 w2 w3
        refine ⟨by rw [sA_same]; exact w0, by rw [sA_same]; exact w1, by rw [sA_same]; exact w2, by rw [sA_same]; exact w3, by rw [sA_same]; exact w4, by rw [sA_same]; exact w5, ?_⟩
        rw [sA_same, w6]
        congr 1
        show T.came s c = (T.isCast s c && T.came s c)
        cases q : T.came s c with
        | false => simp
        | true => rw [cm q]; rfl
      generalize hW : (fun v1 v2 v3 : Int32 => uA (uA (uA (uA (uA (uA (uA (FI 327 0) 0 (J (T.ca c).kind)) 1 (J (T.long c))) 4 v1) 5 (bJ (T.covers s c))) 6 (bJ (T.came s c))) 2 v2) 3 v3) = W
      have eW : ∀ v1 v2 v3, uA (uA (uA (uA (uA (uA (uA (FI 327 0) 0 (J (T.ca c).kind)) 1 (J (T.long c))) 4 v1) 5 (bJ (T.covers s c))) 6 (bJ (T.came s c))) 2 v2) 3 v3 = W v1 v2 v3 := fun v1 v2 v3 => by rw [← hW]
      have fin : ∀ v1 v2 v3, v1 = bJ (decide (24 * (T.ca c).day + 22 < (T.ca c).fin)) → v2 = J (if T.isCast s c = true ∧ (T.ca c).kind = 3 then T.nights s c 1000 else 0) → v3 = J (if T.isCast s c = true then max 0 (T.dayHours s c - (T.S.ct s).day) else 0) → mX8_earns n (sA FI 327 0 (W v1 v2 v3)) FR GR AR BR AN ct (some (327, 0)) = some (J (T.earns s c)) := by
        intro v1 v2 v3 q1 q2 q3
        refine e6 _ (askE _ ?_ ?_ ?_ ?_ ?_ ?_ ?_) <;> rw [← hW] <;> simp [uA_at, q1, q2, q3]
      have E := fin _ _ _ rfl rfl rfl
      have key : wp (mX1_feeOf_j138 n FI FR GR AI AR BR AN (some (Z.s s)) (some (Z.c c)) (bJ (T.covers s c)) (bJ (T.came s c)) (bJ (T.isCast s c))) (fun r => ∃ w, r = (J (T.earns s c), sA FI 327 0 w)) := by
        unfold mX1_feeOf_j138 mX1_feeOf_j203 mX1_feeOf_j254 mX1_feeOf_j255 mX1_feeOf_j292
        by_cases hl : 24 * (T.ca c).day + 22 < (T.ca c).fin <;> cases hi : T.isCast s c <;> by_cases hk : (T.ca c).kind = 3
        all_goals rw [hi] at E
        all_goals simp only [hl, hk, decide_true, decide_false, if_true, if_false, true_and, false_and, and_true, and_false, Bool.false_eq_true, bJ_t, bJ_f] at E
        all_goals ((repeat' (first | ((with_reducible apply wp_let); try dsimp only) | ((with_reducible apply wp_gdJ); (focus (first | ((simp (disch := omega) only [J_lit, J_add, J_sub, J_mul, J_neg, J_n, jle, jlt, jeq, jnn, jnat, Int.toNat_natCast, bJ_0, bJ_1, bft, gd_T, nar_J, nar_0, nar_1, if_true, if_false, Option.bind_some, gd_t, h.sD hs, h.cD hc, (h.sg s hs).num, (h.ca c hc).day, (h.ca c hc).kind, (h.ca c hc).fin, e2, bJ_f, bJ_t, e5, fC, fS, fK, sA_same, sA_sA, e3, e4, eK, c2.day, h_max, eW, true_or, or_true, eq_self, E]); rfl) | rfl)); (focus (first | exact True.intro | (first | exact vp_J (by omega) (by omega) (by omega) | omega)))) | ((with_reducible apply wp_ifJT); (focus (first | ((simp (disch := omega) only [J_lit, J_add, J_sub, J_mul, J_neg, J_n, jle, jlt, jeq, jnn, jnat, Int.toNat_natCast, bJ_0, bJ_1, bft, gd_T, nar_J, nar_0, nar_1, if_true, if_false, Option.bind_some, gd_t, decide_eq_false_iff_not, decide_eq_true_eq, h.sD hs, h.cD hc, (h.sg s hs).num, (h.ca c hc).day, (h.ca c hc).kind, (h.ca c hc).fin, e2, bJ_f, bJ_t, e5, fC, fS, fK, sA_same, sA_sA, e3, e4, eK, c2.day, h_max, eW, true_or, or_true, eq_self, E]); rfl) | rfl)); (focus (first | exact True.intro | omega))) | ((with_reducible apply wp_ifJF); (focus (first | ((simp (disch := omega) only [J_lit, J_add, J_sub, J_mul, J_neg, J_n, jle, jlt, jeq, jnn, jnat, Int.toNat_natCast, bJ_0, bJ_1, bft, gd_T, nar_J, nar_0, nar_1, if_true, if_false, Option.bind_some, gd_t, decide_eq_false_iff_not, decide_eq_true_eq, h.sD hs, h.cD hc, (h.sg s hs).num, (h.ca c hc).day, (h.ca c hc).kind, (h.ca c hc).fin, e2, bJ_f, bJ_t, e5, fC, fS, fK, sA_same, sA_sA, e3, e4, eK, c2.day, h_max, eW, true_or, or_true, eq_self, E]); rfl) | rfl)); (focus (first | exact not_false | omega))) | ((with_reducible apply wp_ifJ); (focus (first | ((simp (disch := omega) only [J_lit, J_add, J_sub, J_mul, J_neg, J_n, jle, jlt, jeq, jnn, jnat, Int.toNat_natCast, bJ_0, bJ_1, bft, gd_T, nar_J, nar_0, nar_1, if_true, if_false, Option.bind_some, gd_t, decide_eq_false_iff_not, decide_eq_true_eq, h.sD hs, h.cD hc, (h.sg s hs).num, (h.ca c hc).day, (h.ca c hc).kind, (h.ca c hc).fin, e2, bJ_f, bJ_t, e5, fC, fS, fK, sA_same, sA_sA, e3, e4, eK, c2.day, h_max, eW, true_or, or_true, eq_self, E]); rfl) | rfl)); all_goals intro _) | (with_reducible apply wp_some) | ((with_reducible apply wp_eli); try dsimp only) | ((with_reducible apply wp_elr); try dsimp only) | ((with_reducible apply wp_bindE); (focus ((simp (disch := omega) only [J_lit, J_add, J_sub, J_mul, J_neg, J_n, jle, jlt, jeq, jnn, jnat, Int.toNat_natCast, bJ_0, bJ_1, bft, gd_T, nar_J, nar_0, nar_1, if_true, if_false, Option.bind_some, gd_t, h.sD hs, h.cD hc, (h.sg s hs).num, (h.ca c hc).day, (h.ca c hc).kind, (h.ca c hc).fin, e2, bJ_f, bJ_t, e5, fC, fS, fK, sA_same, sA_sA, e3, e4, eK, c2.day, h_max, eW, true_or, or_true, eq_self, E]); rfl)); try dsimp only) | (with_reducible apply wp_bind))); all_goals (try (simp (disch := omega) only [J_lit, J_add, J_sub, J_mul, J_neg, J_n, jle, jlt, jeq, jnn, jnat, Int.toNat_natCast, bJ_0, bJ_1, bft, gd_T, nar_J, nar_0, nar_1, if_true, if_false, Option.bind_some, gd_t, h.sD hs, h.cD hc, (h.sg s hs).num, (h.ca c hc).day, (h.ca c hc).kind, (h.ca c hc).fin, e2, bJ_f, bJ_t, e5, fC, fS, fK, sA_same, sA_sA, e3, e4, eK, c2.day, h_max, eW, true_or, or_true, eq_self, E])))
        all_goals exact ⟨_, rfl⟩
      obtain ⟨r, e, w, rfl⟩ := key
      exact ⟨w, e⟩
    obtain ⟨w, ew⟩ := main
    refine ⟨w, wp_eq ?_⟩
    rw [hfee]
    unfold mX1_feeOf
    ((repeat' (first | ((with_reducible apply wp_let); try dsimp only) | ((with_reducible apply wp_gdJ); (focus (first | ((simp (disch := omega) only [J_lit, J_add, J_sub, J_mul, J_neg, J_n, jle, jlt, jeq, jnn, jnat, Int.toNat_natCast, bJ_0, bJ_1, bft, gd_T, nar_J, nar_0, nar_1, if_true, if_false, Option.bind_some, gd_t, k1, h.sD hs, (h.sg s hs).num, e1, ew]); rfl) | rfl)); (focus (first | exact True.intro | (first | exact vp_J (by omega) (by omega) (by omega) | omega)))) | ((with_reducible apply wp_ifJT); (focus (first | ((simp (disch := omega) only [J_lit, J_add, J_sub, J_mul, J_neg, J_n, jle, jlt, jeq, jnn, jnat, Int.toNat_natCast, bJ_0, bJ_1, bft, gd_T, nar_J, nar_0, nar_1, if_true, if_false, Option.bind_some, gd_t, decide_eq_false_iff_not, decide_eq_true_eq, k1, h.sD hs, (h.sg s hs).num, e1, ew]); rfl) | rfl)); (focus (first | exact True.intro | omega))) | ((with_reducible apply wp_ifJF); (focus (first | ((simp (disch := omega) only [J_lit, J_add, J_sub, J_mul, J_neg, J_n, jle, jlt, jeq, jnn, jnat, Int.toNat_natCast, bJ_0, bJ_1, bft, gd_T, nar_J, nar_0, nar_1, if_true, if_false, Option.bind_some, gd_t, decide_eq_false_iff_not, decide_eq_true_eq, k1, h.sD hs, (h.sg s hs).num, e1, ew]); rfl) | rfl)); (focus (first | exact not_false | omega))) | ((with_reducible apply wp_ifJ); (focus (first | ((simp (disch := omega) only [J_lit, J_add, J_sub, J_mul, J_neg, J_n, jle, jlt, jeq, jnn, jnat, Int.toNat_natCast, bJ_0, bJ_1, bft, gd_T, nar_J, nar_0, nar_1, if_true, if_false, Option.bind_some, gd_t, decide_eq_false_iff_not, decide_eq_true_eq, k1, h.sD hs, (h.sg s hs).num, e1, ew]); rfl) | rfl)); all_goals intro _) | (with_reducible apply wp_some) | ((with_reducible apply wp_eli); try dsimp only) | ((with_reducible apply wp_elr); try dsimp only) | ((with_reducible apply wp_bindE); (focus ((simp (disch := omega) only [J_lit, J_add, J_sub, J_mul, J_neg, J_n, jle, jlt, jeq, jnn, jnat, Int.toNat_natCast, bJ_0, bJ_1, bft, gd_T, nar_J, nar_0, nar_1, if_true, if_false, Option.bind_some, gd_t, k1, h.sD hs, (h.sg s hs).num, e1, ew]); rfl)); try dsimp only) | (with_reducible apply wp_bind))); all_goals (try (simp (disch := omega) only [J_lit, J_add, J_sub, J_mul, J_neg, J_n, jle, jlt, jeq, jnn, jnat, Int.toNat_natCast, bJ_0, bJ_1, bft, gd_T, nar_J, nar_0, nar_1, if_true, if_false, Option.bind_some, gd_t, k1, h.sD hs, (h.sg s hs).num, e1, ew])))
    all_goals (first | exact wp_some rfl | (exfalso; simp_all; done))
end
end
