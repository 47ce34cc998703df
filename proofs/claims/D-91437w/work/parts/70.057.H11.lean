noncomputable section
set_option linter.unusedVariables false
set_option linter.unusedSimpArgs false
theorem hrs_succ {β : Type} (W : PWg β) (bz : Nat → Bool) (k h : Nat) (z : Bool × β) : hrs W bz (k + 1) h z = hrs W bz k (h + 1) (if z.1 = true ∧ bz h = false then (W.mo z.2, W.go z.2) else z) := rfl
/-! PLAIN 51: the house's sets in time -/
def bwA (bz : Nat → Bool) (A : OhI) : Prop := ∀ h, h < 720 → A 325 0 h = bJ (bz h)
section
variable {T : PTb} {Z : PZ} {FI : OhI} {FR GR : OhQ} {AI : OhI} {AR BR : OhQ} {AN : OhN} {n : Nat}
/-- lengths of the scratch -/
def HLn (AN : OhN) : Prop :=
  (AN 323 0 = 120) ∧
  (AN 324 0 = 120) ∧
  (AN 325 0 = 720) ∧
  (∀ c, c < 66 → AN 428 c = 9)
theorem HLn.mk {AN : OhN}
    (a323 : AN 323 0 = 120)
    (a324 : AN 324 0 = 120)
    (a325 : AN 325 0 = 720)
    (a428 : ∀ c, c < 66 → AN 428 c = 9) :
    HLn AN := ⟨a323, a324, a325, a428⟩
theorem HLn.a323 {AN : OhN} (h : HLn AN) : AN 323 0 = 120 := h.1
theorem HLn.a324 {AN : OhN} (h : HLn AN) : AN 324 0 = 120 := h.2.1
theorem HLn.a325 {AN : OhN} (h : HLn AN) : AN 325 0 = 720 := h.2.2.1
theorem HLn.a428 {AN : OhN} (h : HLn AN) : ∀ c, c < 66 → AN 428 c = 9 := h.2.2.2
theorem HWg.eqx_ {A : OhI} {L : List Nat} (h : HWg FI AI) (e : eqx L AI A) (hL : 61 ∉ L ∧ 63 ∉ L) : HWg FI A := ⟨h.many, fun k hk => by rw [e 61 hL.1]; exact h.on k hk, fun k i hk hi => by rw [e 63 hL.2]; exact h.nx k i hk hi⟩
theorem h_hrs (h : HTb T Z FI FR GR AI BR AN) (hl : HLn AN) (hn : 10000 ≤ n) {c : Nat} {x3 : Int32} (hc : c < T.all) {b : Nat} (hb : b ≤ 720) (eb : (T.ca c).beg = (b : Int)) (bz : Nat → Bool) : ∀ (k h : Nat) (z : Bool × (Nat → Bool)) (A : OhI), h + k = b → HWg FI A → bwA bz A → swA 323 z.2 A → (∃ q, swA 324 q A) →
    ∃ A2, eqx [323, 324] A A2 ∧ swA 323 (hrs WH bz k h z).2 A2 ∧ (∃ q, swA 324 q A2) ∧ goesF (fun v : Int32 × Int32 × OhI => mX1_judgeSets_b167 n FI FR v.2.2 AR BR AN v.1 v.2.1 x3 (some (Z.c c))) k (J h, bJ z.1, A) (J b, bJ (hrs WH bz k h z).1, A2)
  | 0, h', z, A, e, _, _, hcu, hq => ⟨A, eqx_refl, by unfold hrs; exact hcu, hq, by rw [← e, Nat.add_zero]; unfold hrs; rfl⟩
  | k + 1, h', z, A, e, hw, hbz, hcu, hq => by
    have eh := hbz h' (by omega)
    have eB := (h.ca c hc).beg
    rw [eb] at eB
    by_cases q : z.1 = true ∧ bz h' = false
    · obtain ⟨A1, g1, x1, c1, q1⟩ := h_spread (n := n) (FR := FR) (AR := AR) (BR := BR) hw ⟨hl.a323, hl.a324⟩ hn hcu (.inr hq)
      obtain ⟨A2, x2', c2, q2, g2⟩ := h_hrs (x3 := x3) h hl hn hc hb eb bz k (h' + 1) (whMo z.2, whGo z.2) A1 (by omega) (hw.eqx_ x1 (by decide)) (fun i hi => by rw [x1 325 (by decide)]; exact hbz i hi) c1 q1
      have er : hrs WH bz (k + 1) h' z = hrs WH bz k (h' + 1) (whMo z.2, whGo z.2) := by rw [hrs_succ, if_pos q]; rfl
      rw [er]
      refine ⟨A2, eqx_trans x1 x2', c2, q2, ?_⟩
      refine ⟨_, wp_eq ?_, g2⟩
      dsimp only
      unfold mX1_judgeSets_b167
      ((repeat' (first | ((with_reducible apply wp_let); try dsimp only) | ((with_reducible apply wp_gdJ); (focus (first | ((simp (disch := omega) only [J_lit, J_add, J_sub, J_mul, J_neg, J_n, jle, jlt, jeq, jnn, jnat, Int.toNat_natCast, bJ_0, bJ_1, bft, gd_T, nar_J, nar_0, nar_1, if_true, if_false, Option.bind_some, gd_t, h.cD hc, eB, eh, q.1, q.2, g1, bJ_t, bJ_f]); rfl) | rfl)); (focus (first | exact True.intro | (first | exact vp_J (by omega) (by omega) (by omega) | omega)))) | ((with_reducible apply wp_ifJT); (focus (first | ((simp (disch := omega) only [J_lit, J_add, J_sub, J_mul, J_neg, J_n, jle, jlt, jeq, jnn, jnat, Int.toNat_natCast, bJ_0, bJ_1, bft, gd_T, nar_J, nar_0, nar_1, if_true, if_false, Option.bind_some, gd_t, decide_eq_false_iff_not, decide_eq_true_eq, h.cD hc, eB, eh, q.1, q.2, g1, bJ_t, bJ_f]); rfl) | rfl)); (focus (first | exact True.intro | omega))) | ((with_reducible apply wp_ifJF); (focus (first | ((simp (disch := omega) only [J_lit, J_add, J_sub, J_mul, J_neg, J_n, jle, jlt, jeq, jnn, jnat, Int.toNat_natCast, bJ_0, bJ_1, bft, gd_T, nar_J, nar_0, nar_1, if_true, if_false, Option.bind_some, gd_t, decide_eq_false_iff_not, decide_eq_true_eq, h.cD hc, eB, eh, q.1, q.2, g1, bJ_t, bJ_f]); rfl) | rfl)); (focus (first | exact not_false | omega))) | ((with_reducible apply wp_ifJ); (focus (first | ((simp (disch := omega) only [J_lit, J_add, J_sub, J_mul, J_neg, J_n, jle, jlt, jeq, jnn, jnat, Int.toNat_natCast, bJ_0, bJ_1, bft, gd_T, nar_J, nar_0, nar_1, if_true, if_false, Option.bind_some, gd_t, decide_eq_false_iff_not, decide_eq_true_eq, h.cD hc, eB, eh, q.1, q.2, g1, bJ_t, bJ_f]); rfl) | rfl)); all_goals intro _) | (with_reducible apply wp_some) | ((with_reducible apply wp_eli); try dsimp only) | ((with_reducible apply wp_elr); try dsimp only) | ((with_reducible apply wp_bindE); (focus ((simp (disch := omega) only [J_lit, J_add, J_sub, J_mul, J_neg, J_n, jle, jlt, jeq, jnn, jnat, Int.toNat_natCast, bJ_0, bJ_1, bft, gd_T, nar_J, nar_0, nar_1, if_true, if_false, Option.bind_some, gd_t, h.cD hc, eB, eh, q.1, q.2, g1, bJ_t, bJ_f]); rfl)); try dsimp only) | (with_reducible apply wp_bind))); all_goals (try (simp (disch := omega) only [J_lit, J_add, J_sub, J_mul, J_neg, J_n, jle, jlt, jeq, jnn, jnat, Int.toNat_natCast, bJ_0, bJ_1, bft, gd_T, nar_J, nar_0, nar_1, if_true, if_false, Option.bind_some, gd_t, h.cD hc, eB, eh, q.1, q.2, g1, bJ_t, bJ_f])))
      rfl
    · obtain ⟨A2, x2', c2, q2, g2⟩ := h_hrs (x3 := x3) h hl hn hc hb eb bz k (h' + 1) z A (by omega) hw hbz hcu hq
      have er : hrs WH bz (k + 1) h' z = hrs WH bz k (h' + 1) z := by rw [hrs_succ, if_neg q]
      rw [er]
      refine ⟨A2, x2', c2, q2, ?_⟩
      refine ⟨_, wp_eq ?_, g2⟩
      dsimp only
      unfold mX1_judgeSets_b167
      ((repeat' (first | ((with_reducible apply wp_let); try dsimp only) | ((with_reducible apply wp_gdJ); (focus (first | ((simp (disch := omega) only [J_lit, J_add, J_sub, J_mul, J_neg, J_n, jle, jlt, jeq, jnn, jnat, Int.toNat_natCast, bJ_0, bJ_1, bft, gd_T, nar_J, nar_0, nar_1, if_true, if_false, Option.bind_some, gd_t, h.cD hc, eB, eh]); rfl) | rfl)); (focus (first | exact True.intro | (first | exact vp_J (by omega) (by omega) (by omega) | omega)))) | ((with_reducible apply wp_ifJT); (focus (first | ((simp (disch := omega) only [J_lit, J_add, J_sub, J_mul, J_neg, J_n, jle, jlt, jeq, jnn, jnat, Int.toNat_natCast, bJ_0, bJ_1, bft, gd_T, nar_J, nar_0, nar_1, if_true, if_false, Option.bind_some, gd_t, decide_eq_false_iff_not, decide_eq_true_eq, h.cD hc, eB, eh]); rfl) | rfl)); (focus (first | exact True.intro | omega))) | ((with_reducible apply wp_ifJF); (focus (first | ((simp (disch := omega) only [J_lit, J_add, J_sub, J_mul, J_neg, J_n, jle, jlt, jeq, jnn, jnat, Int.toNat_natCast, bJ_0, bJ_1, bft, gd_T, nar_J, nar_0, nar_1, if_true, if_false, Option.bind_some, gd_t, decide_eq_false_iff_not, decide_eq_true_eq, h.cD hc, eB, eh]); rfl) | rfl)); (focus (first | exact not_false | omega))) | ((with_reducible apply wp_ifJ); (focus (first | ((simp (disch := omega) only [J_lit, J_add, J_sub, J_mul, J_neg, J_n, jle, jlt, jeq, jnn, jnat, Int.toNat_natCast, bJ_0, bJ_1, bft, gd_T, nar_J, nar_0, nar_1, if_true, if_false, Option.bind_some, gd_t, decide_eq_false_iff_not, decide_eq_true_eq, h.cD hc, eB, eh]); rfl) | rfl)); all_goals intro _) | (with_reducible apply wp_some) | ((with_reducible apply wp_eli); try dsimp only) | ((with_reducible apply wp_elr); try dsimp only) | ((with_reducible apply wp_bindE); (focus ((simp (disch := omega) only [J_lit, J_add, J_sub, J_mul, J_neg, J_n, jle, jlt, jeq, jnn, jnat, Int.toNat_natCast, bJ_0, bJ_1, bft, gd_T, nar_J, nar_0, nar_1, if_true, if_false, Option.bind_some, gd_t, h.cD hc, eB, eh]); rfl)); try dsimp only) | (with_reducible apply wp_bind))); all_goals (try (simp (disch := omega) only [J_lit, J_add, J_sub, J_mul, J_neg, J_n, jle, jlt, jeq, jnn, jnat, Int.toNat_natCast, bJ_0, bJ_1, bft, gd_T, nar_J, nar_0, nar_1, if_true, if_false, Option.bind_some, gd_t, h.cD hc, eB, eh])))
      all_goals (first | rfl | (exfalso; simp_all; done))
theorem h_busy (h : HTb T Z FI FR GR AI BR AN) (hT : PTbOk T) (hl : HLn AN) (hn : 10000 ≤ n) : ∃ A, eqx [325] AI A ∧ bwA T.bzy A ∧ ∃ A0, lpF (fun v : Int32 × OhI => mX1_judgeSets_b2 n FI FR v.2 AR BR AN v.1) n (J 0, AI) = some A0 ∧ lpF (fun v : Int32 × OhI => mX1_judgeSets_b26 n FI FR v.2 AR BR AN v.1) n (J 0, A0) = some A := by
  have h66 := hT.all
  have k1 : wp (lpF (fun v : Int32 × OhI => mX1_judgeSets_b2 n FI FR v.2 AR BR AN v.1) n (J 0, AI)) (fun A => eqx [325] AI A ∧ ∀ x, x < 720 → A 325 0 x = J 0) := by
    refine wp_for 720 (fun k a => ∃ A, a = (J k, A) ∧ eqx [325] AI A ∧ ∀ x, x < k → A 325 0 x = J 0) ?_ (k0 := 0) ⟨AI, rfl, eqx_refl, fun i hi => by omega⟩ (by omega) (by omega)
    rintro k a hk ⟨A, rfl, x, ho⟩
    dsimp only
    unfold mX1_judgeSets_b2
    by_cases e : k = 720
    · subst e
      ((repeat' (first | ((with_reducible apply wp_let); try dsimp only) | ((with_reducible apply wp_gdJ); (focus (first | ((simp (disch := omega) only [J_lit, J_add, J_sub, J_mul, J_neg, J_n, jle, jlt, jeq, jnn, jnat, Int.toNat_natCast, bJ_0, bJ_1, bft, gd_T, nar_J, nar_0, nar_1, if_true, if_false, Option.bind_some, gd_t, hl.a325]); rfl) | rfl)); (focus (first | exact True.intro | (first | exact vp_J (by omega) (by omega) (by omega) | omega)))) | ((with_reducible apply wp_ifJT); (focus (first | ((simp (disch := omega) only [J_lit, J_add, J_sub, J_mul, J_neg, J_n, jle, jlt, jeq, jnn, jnat, Int.toNat_natCast, bJ_0, bJ_1, bft, gd_T, nar_J, nar_0, nar_1, if_true, if_false, Option.bind_some, gd_t, decide_eq_false_iff_not, decide_eq_true_eq, hl.a325]); rfl) | rfl)); (focus (first | exact True.intro | omega))) | ((with_reducible apply wp_ifJF); (focus (first | ((simp (disch := omega) only [J_lit, J_add, J_sub, J_mul, J_neg, J_n, jle, jlt, jeq, jnn, jnat, Int.toNat_natCast, bJ_0, bJ_1, bft, gd_T, nar_J, nar_0, nar_1, if_true, if_false, Option.bind_some, gd_t, decide_eq_false_iff_not, decide_eq_true_eq, hl.a325]); rfl) | rfl)); (focus (first | exact not_false | omega))) | ((with_reducible apply wp_ifJ); (focus (first | ((simp (disch := omega) only [J_lit, J_add, J_sub, J_mul, J_neg, J_n, jle, jlt, jeq, jnn, jnat, Int.toNat_natCast, bJ_0, bJ_1, bft, gd_T, nar_J, nar_0, nar_1, if_true, if_false, Option.bind_some, gd_t, decide_eq_false_iff_not, decide_eq_true_eq, hl.a325]); rfl) | rfl)); all_goals intro _) | (with_reducible apply wp_some) | ((with_reducible apply wp_eli); try dsimp only) | ((with_reducible apply wp_elr); try dsimp only) | ((with_reducible apply wp_bindE); (focus ((simp (disch := omega) only [J_lit, J_add, J_sub, J_mul, J_neg, J_n, jle, jlt, jeq, jnn, jnat, Int.toNat_natCast, bJ_0, bJ_1, bft, gd_T, nar_J, nar_0, nar_1, if_true, if_false, Option.bind_some, gd_t, hl.a325]); rfl)); try dsimp only) | (with_reducible apply wp_bind))); all_goals (try (simp (disch := omega) only [J_lit, J_add, J_sub, J_mul, J_neg, J_n, jle, jlt, jeq, jnn, jnat, Int.toNat_natCast, bJ_0, bJ_1, bft, gd_T, nar_J, nar_0, nar_1, if_true, if_false, Option.bind_some, gd_t, hl.a325])))
      exact ⟨x, ho⟩
    · ((repeat' (first | ((with_reducible apply wp_let); try dsimp only) | ((with_reducible apply wp_gdJ); (focus (first | ((simp (disch := omega) only [J_lit, J_add, J_sub, J_mul, J_neg, J_n, jle, jlt, jeq, jnn, jnat, Int.toNat_natCast, bJ_0, bJ_1, bft, gd_T, nar_J, nar_0, nar_1, if_true, if_false, Option.bind_some, gd_t, hl.a325]); rfl) | rfl)); (focus (first | exact True.intro | (first | exact vp_J (by omega) (by omega) (by omega) | omega)))) | ((with_reducible apply wp_ifJT); (focus (first | ((simp (disch := omega) only [J_lit, J_add, J_sub, J_mul, J_neg, J_n, jle, jlt, jeq, jnn, jnat, Int.toNat_natCast, bJ_0, bJ_1, bft, gd_T, nar_J, nar_0, nar_1, if_true, if_false, Option.bind_some, gd_t, decide_eq_false_iff_not, decide_eq_true_eq, hl.a325]); rfl) | rfl)); (focus (first | exact True.intro | omega))) | ((with_reducible apply wp_ifJF); (focus (first | ((simp (disch := omega) only [J_lit, J_add, J_sub, J_mul, J_neg, J_n, jle, jlt, jeq, jnn, jnat, Int.toNat_natCast, bJ_0, bJ_1, bft, gd_T, nar_J, nar_0, nar_1, if_true, if_false, Option.bind_some, gd_t, decide_eq_false_iff_not, decide_eq_true_eq, hl.a325]); rfl) | rfl)); (focus (first | exact not_false | omega))) | ((with_reducible apply wp_ifJ); (focus (first | ((simp (disch := omega) only [J_lit, J_add, J_sub, J_mul, J_neg, J_n, jle, jlt, jeq, jnn, jnat, Int.toNat_natCast, bJ_0, bJ_1, bft, gd_T, nar_J, nar_0, nar_1, if_true, if_false, Option.bind_some, gd_t, decide_eq_false_iff_not, decide_eq_true_eq, hl.a325]); rfl) | rfl)); all_goals intro _) | (with_reducible apply wp_some) | ((with_reducible apply wp_eli); try dsimp only) | ((with_reducible apply wp_elr); try dsimp only) | ((with_reducible apply wp_bindE); (focus ((simp (disch := omega) only [J_lit, J_add, J_sub, J_mul, J_neg, J_n, jle, jlt, jeq, jnn, jnat, Int.toNat_natCast, bJ_0, bJ_1, bft, gd_T, nar_J, nar_0, nar_1, if_true, if_false, Option.bind_some, gd_t, hl.a325]); rfl)); try dsimp only) | (with_reducible apply wp_bind))); all_goals (try (simp (disch := omega) only [J_lit, J_add, J_sub, J_mul, J_neg, J_n, jle, jlt, jeq, jnn, jnat, Int.toNat_natCast, bJ_0, bJ_1, bft, gd_T, nar_J, nar_0, nar_1, if_true, if_false, Option.bind_some, gd_t, hl.a325])))
      refine ⟨by omega, _, rfl, eqx_trans x (eqx_sA (by decide)), fun i hi => ?_⟩
      rw [sA_same]
      by_cases q : i = k
      · subst q; rw [uA_same]
      · rw [uA_ne _ _ q]; exact ho i (by omega)
  obtain ⟨A1, e1, x1, h1⟩ := k1
  have eB : ∀ x : Nat, T.bzy x = anyN T.all fun k => decide ((T.ca (T.ord k)).kind ≠ 0 ∧ (T.ca (T.ord k)).beg ≤ (x : Int) ∧ (x : Int) < (T.ca (T.ord k)).fin) := fun x => by
    rw [any_pos hT (p := fun d => decide ((T.ca d).kind ≠ 0 ∧ (T.ca d).beg ≤ (x : Int) ∧ (x : Int) < (T.ca d).fin)) (Nat.le_refl _)]
    unfold PTb.bzy
    exact anyN_congr fun d hd => by rw [decide_eq_true (hT.pos d hd), Bool.true_and]
  have k2 : wp (lpF (fun v : Int32 × OhI => mX1_judgeSets_b26 n FI FR v.2 AR BR AN v.1) n (J 0, A1)) (fun A => eqx [325] AI A ∧ bwA T.bzy A) := by
    refine wp_for T.all (fun k a => ∃ A, a = (J k, A) ∧ eqx [325] AI A ∧ ∀ x : Nat, x < 720 → A 325 0 x = bJ (anyN k fun k => decide ((T.ca (T.ord k)).kind ≠ 0 ∧ (T.ca (T.ord k)).beg ≤ (x : Int) ∧ (x : Int) < (T.ca (T.ord k)).fin))) ?_ (k0 := 0) ⟨A1, rfl, x1, fun i hi => by rw [h1 i hi, anyN_zero]; rfl⟩ (by omega) (by omega)
    rintro k a hk ⟨A, rfl, x, ho⟩
    have hA := h.eqx_ x (by decide)
    dsimp only
    unfold mX1_judgeSets_b26
    by_cases e : k = T.all
    · subst e
      ((repeat' (first | ((with_reducible apply wp_let); try dsimp only) | ((with_reducible apply wp_gdJ); (focus (first | ((simp (disch := omega) only [J_lit, J_add, J_sub, J_mul, J_neg, J_n, jle, jlt, jeq, jnn, jnat, Int.toNat_natCast, bJ_0, bJ_1, bft, gd_T, nar_J, nar_0, nar_1, if_true, if_false, Option.bind_some, gd_t, h.ordered]); rfl) | rfl)); (focus (first | exact True.intro | (first | exact vp_J (by omega) (by omega) (by omega) | omega)))) | ((with_reducible apply wp_ifJT); (focus (first | ((simp (disch := omega) only [J_lit, J_add, J_sub, J_mul, J_neg, J_n, jle, jlt, jeq, jnn, jnat, Int.toNat_natCast, bJ_0, bJ_1, bft, gd_T, nar_J, nar_0, nar_1, if_true, if_false, Option.bind_some, gd_t, decide_eq_false_iff_not, decide_eq_true_eq, h.ordered]); rfl) | rfl)); (focus (first | exact True.intro | omega))) | ((with_reducible apply wp_ifJF); (focus (first | ((simp (disch := omega) only [J_lit, J_add, J_sub, J_mul, J_neg, J_n, jle, jlt, jeq, jnn, jnat, Int.toNat_natCast, bJ_0, bJ_1, bft, gd_T, nar_J, nar_0, nar_1, if_true, if_false, Option.bind_some, gd_t, decide_eq_false_iff_not, decide_eq_true_eq, h.ordered]); rfl) | rfl)); (focus (first | exact not_false | omega))) | ((with_reducible apply wp_ifJ); (focus (first | ((simp (disch := omega) only [J_lit, J_add, J_sub, J_mul, J_neg, J_n, jle, jlt, jeq, jnn, jnat, Int.toNat_natCast, bJ_0, bJ_1, bft, gd_T, nar_J, nar_0, nar_1, if_true, if_false, Option.bind_some, gd_t, decide_eq_false_iff_not, decide_eq_true_eq, h.ordered]); rfl) | rfl)); all_goals intro _) | (with_reducible apply wp_some) | ((with_reducible apply wp_eli); try dsimp only) | ((with_reducible apply wp_elr); try dsimp only) | ((with_reducible apply wp_bindE); (focus ((simp (disch := omega) only [J_lit, J_add, J_sub, J_mul, J_neg, J_n, jle, jlt, jeq, jnn, jnat, Int.toNat_natCast, bJ_0, bJ_1, bft, gd_T, nar_J, nar_0, nar_1, if_true, if_false, Option.bind_some, gd_t, h.ordered]); rfl)); try dsimp only) | (with_reducible apply wp_bind))); all_goals (try (simp (disch := omega) only [J_lit, J_add, J_sub, J_mul, J_neg, J_n, jle, jlt, jeq, jnn, jnat, Int.toNat_natCast, bJ_0, bJ_1, bft, gd_T, nar_J, nar_0, nar_1, if_true, if_false, Option.bind_some, gd_t, h.ordered])))
      exact ⟨x, fun i hi => by rw [ho i hi, eB]⟩
    · have hc := hT.ord k (by omega)
      have hb := hT.b hc
      have e4 := h_onStage hA hT hc
      have k3 : ∃ A2, lpF (fun v : Int32 × OhI => mX1_judgeSets_b44 n FI FR v.2 AR BR AN (J k) v.1) n (J (T.ca (T.ord k)).beg, A) = some A2 ∧ eqx [325] A A2 ∧ ∀ x : Nat, x < 720 → A2 325 0 x = if (T.ca (T.ord k)).kind ≠ 0 ∧ (T.ca (T.ord k)).beg ≤ (x : Int) ∧ (x : Int) < (T.ca (T.ord k)).fin then J 1 else A 325 0 x := by
        have key : wp (lpF (fun v : Int32 × OhI => mX1_judgeSets_b44 n FI FR v.2 AR BR AN (J k) v.1) n (J (T.ca (T.ord k)).beg, A)) (fun A2 => eqx [325] A A2 ∧ ∀ x : Nat, x < 720 → A2 325 0 x = if (T.ca (T.ord k)).kind ≠ 0 ∧ (T.ca (T.ord k)).beg ≤ (x : Int) ∧ (x : Int) < (T.ca (T.ord k)).fin then J 1 else A 325 0 x) := by
          refine wp_for (T.long (T.ord k)).toNat (fun i a => ∃ A2, a = (J ((T.ca (T.ord k)).beg + (i : Int)), A2) ∧ (i = 0 ∨ (T.ca (T.ord k)).kind ≠ 0) ∧ eqx [325] A A2 ∧ ∀ x : Nat, x < 720 → A2 325 0 x = if (T.ca (T.ord k)).beg ≤ (x : Int) ∧ (x : Int) < (T.ca (T.ord k)).beg + (i : Int) then J 1 else A 325 0 x) ?_ (k0 := 0) ⟨A, by simp, .inl rfl, eqx_refl, fun i hi => by rw [if_neg (by omega)]⟩ (by omega) (by unfold PTb.long; omega)
          rintro i a hi ⟨A2, rfl, hz, y, hy⟩
          have hlong : T.long (T.ord k) = (T.ca (T.ord k)).fin - (T.ca (T.ord k)).beg := rfl
          dsimp only
          unfold mX1_judgeSets_b44
          ((repeat' (first | ((with_reducible apply wp_let); try dsimp only) | ((with_reducible apply wp_gdJ); (focus (first | ((simp (disch := omega) only [J_lit, J_add, J_sub, J_mul, J_neg, J_n, jle, jlt, jeq, jnn, jnat, Int.toNat_natCast, bJ_0, bJ_1, bft, gd_T, nar_J, nar_0, nar_1, if_true, if_false, Option.bind_some, gd_t, h.order, h.cD hc, (h.ca _ hc).fin, e4]); rfl) | rfl)); (focus (first | exact True.intro | (first | exact vp_J (by omega) (by omega) (by omega) | omega)))) | ((with_reducible apply wp_ifJT); (focus (first | ((simp (disch := omega) only [J_lit, J_add, J_sub, J_mul, J_neg, J_n, jle, jlt, jeq, jnn, jnat, Int.toNat_natCast, bJ_0, bJ_1, bft, gd_T, nar_J, nar_0, nar_1, if_true, if_false, Option.bind_some, gd_t, decide_eq_false_iff_not, decide_eq_true_eq, h.order, h.cD hc, (h.ca _ hc).fin, e4]); rfl) | rfl)); (focus (first | exact True.intro | omega))) | ((with_reducible apply wp_ifJF); (focus (first | ((simp (disch := omega) only [J_lit, J_add, J_sub, J_mul, J_neg, J_n, jle, jlt, jeq, jnn, jnat, Int.toNat_natCast, bJ_0, bJ_1, bft, gd_T, nar_J, nar_0, nar_1, if_true, if_false, Option.bind_some, gd_t, decide_eq_false_iff_not, decide_eq_true_eq, h.order, h.cD hc, (h.ca _ hc).fin, e4]); rfl) | rfl)); (focus (first | exact not_false | omega))) | ((with_reducible apply wp_ifJ); (focus (first | ((simp (disch := omega) only [J_lit, J_add, J_sub, J_mul, J_neg, J_n, jle, jlt, jeq, jnn, jnat, Int.toNat_natCast, bJ_0, bJ_1, bft, gd_T, nar_J, nar_0, nar_1, if_true, if_false, Option.bind_some, gd_t, decide_eq_false_iff_not, decide_eq_true_eq, h.order, h.cD hc, (h.ca _ hc).fin, e4]); rfl) | rfl)); all_goals intro _) | (with_reducible apply wp_some) | ((with_reducible apply wp_eli); try dsimp only) | ((with_reducible apply wp_elr); try dsimp only) | ((with_reducible apply wp_bindE); (focus ((simp (disch := omega) only [J_lit, J_add, J_sub, J_mul, J_neg, J_n, jle, jlt, jeq, jnn, jnat, Int.toNat_natCast, bJ_0, bJ_1, bft, gd_T, nar_J, nar_0, nar_1, if_true, if_false, Option.bind_some, gd_t, h.order, h.cD hc, (h.ca _ hc).fin, e4]); rfl)); try dsimp only) | (with_reducible apply wp_bind))); all_goals (try (simp (disch := omega) only [J_lit, J_add, J_sub, J_mul, J_neg, J_n, jle, jlt, jeq, jnn, jnat, Int.toNat_natCast, bJ_0, bJ_1, bft, gd_T, nar_J, nar_0, nar_1, if_true, if_false, Option.bind_some, gd_t, h.order, h.cD hc, (h.ca _ hc).fin, e4])))
          · refine ⟨y, fun j hj => ?_⟩
            rw [hy j hj]
            rcases hz with hz | hz
            · subst hz; exfalso; omega
            · by_cases q : (T.ca (T.ord k)).beg ≤ (j : Int) ∧ (j : Int) < (T.ca (T.ord k)).beg + (i : Int)
              · rw [if_pos q, if_pos ⟨hz, by omega, by omega⟩]
              · rw [if_neg q, if_neg (by omega)]
          · refine ⟨y, fun j hj => ?_⟩
            rename_i hk0
            have hi0 : i = 0 := by omega
            subst hi0
            rw [hy j hj, if_neg (by omega), if_neg (by omega)]
          · refine ⟨by omega, sA A2 325 0 (uA (A2 325 0) ((T.ca (T.ord k)).beg + (i : Int)).toNat (J 1)), by rw [show (T.ca (T.ord k)).beg + (i : Int) + 1 = (T.ca (T.ord k)).beg + ((i + 1 : Nat) : Int) by omega], .inr (by omega), eqx_trans y (eqx_sA (by decide)), fun j hj => ?_⟩
            rw [sA_same]
            by_cases q : j = ((T.ca (T.ord k)).beg + (i : Int)).toNat
            · rw [q, uA_same, if_pos (by omega)]
            · rw [uA_ne _ _ q, hy j hj]
              by_cases q2 : (T.ca (T.ord k)).beg ≤ (j : Int) ∧ (j : Int) < (T.ca (T.ord k)).beg + (i : Int)
              · rw [if_pos q2, if_pos (by omega)]
              · rw [if_neg q2, if_neg (by omega)]
        obtain ⟨A2, e, y, hy⟩ := key
        exact ⟨A2, e, y, hy⟩
      obtain ⟨A2, e2, y, hy⟩ := k3
      ((repeat' (first | ((with_reducible apply wp_let); try dsimp only) | ((with_reducible apply wp_gdJ); (focus (first | ((simp (disch := omega) only [J_lit, J_add, J_sub, J_mul, J_neg, J_n, jle, jlt, jeq, jnn, jnat, Int.toNat_natCast, bJ_0, bJ_1, bft, gd_T, nar_J, nar_0, nar_1, if_true, if_false, Option.bind_some, gd_t, h.ordered, h.order, h.cD hc, (h.ca _ hc).beg, e2]); rfl) | rfl)); (focus (first | exact True.intro | (first | exact vp_J (by omega) (by omega) (by omega) | omega)))) | ((with_reducible apply wp_ifJT); (focus (first | ((simp (disch := omega) only [J_lit, J_add, J_sub, J_mul, J_neg, J_n, jle, jlt, jeq, jnn, jnat, Int.toNat_natCast, bJ_0, bJ_1, bft, gd_T, nar_J, nar_0, nar_1, if_true, if_false, Option.bind_some, gd_t, decide_eq_false_iff_not, decide_eq_true_eq, h.ordered, h.order, h.cD hc, (h.ca _ hc).beg, e2]); rfl) | rfl)); (focus (first | exact True.intro | omega))) | ((with_reducible apply wp_ifJF); (focus (first | ((simp (disch := omega) only [J_lit, J_add, J_sub, J_mul, J_neg, J_n, jle, jlt, jeq, jnn, jnat, Int.toNat_natCast, bJ_0, bJ_1, bft, gd_T, nar_J, nar_0, nar_1, if_true, if_false, Option.bind_some, gd_t, decide_eq_false_iff_not, decide_eq_true_eq, h.ordered, h.order, h.cD hc, (h.ca _ hc).beg, e2]); rfl) | rfl)); (focus (first | exact not_false | omega))) | ((with_reducible apply wp_ifJ); (focus (first | ((simp (disch := omega) only [J_lit, J_add, J_sub, J_mul, J_neg, J_n, jle, jlt, jeq, jnn, jnat, Int.toNat_natCast, bJ_0, bJ_1, bft, gd_T, nar_J, nar_0, nar_1, if_true, if_false, Option.bind_some, gd_t, decide_eq_false_iff_not, decide_eq_true_eq, h.ordered, h.order, h.cD hc, (h.ca _ hc).beg, e2]); rfl) | rfl)); all_goals intro _) | (with_reducible apply wp_some) | ((with_reducible apply wp_eli); try dsimp only) | ((with_reducible apply wp_elr); try dsimp only) | ((with_reducible apply wp_bindE); (focus ((simp (disch := omega) only [J_lit, J_add, J_sub, J_mul, J_neg, J_n, jle, jlt, jeq, jnn, jnat, Int.toNat_natCast, bJ_0, bJ_1, bft, gd_T, nar_J, nar_0, nar_1, if_true, if_false, Option.bind_some, gd_t, h.ordered, h.order, h.cD hc, (h.ca _ hc).beg, e2]); rfl)); try dsimp only) | (with_reducible apply wp_bind))); all_goals (try (simp (disch := omega) only [J_lit, J_add, J_sub, J_mul, J_neg, J_n, jle, jlt, jeq, jnn, jnat, Int.toNat_natCast, bJ_0, bJ_1, bft, gd_T, nar_J, nar_0, nar_1, if_true, if_false, Option.bind_some, gd_t, h.ordered, h.order, h.cD hc, (h.ca _ hc).beg, e2])))
      refine ⟨by omega, A2, rfl, eqx_trans x y, fun j hj => ?_⟩
      rw [hy j hj, ho j hj, anyN_succ]
      by_cases q : (T.ca (T.ord k)).kind ≠ 0 ∧ (T.ca (T.ord k)).beg ≤ (j : Int) ∧ (j : Int) < (T.ca (T.ord k)).fin
      · rw [if_pos q, decide_eq_true q, Bool.or_true]; rfl
      · rw [if_neg q, decide_eq_false q, Bool.or_false]
  obtain ⟨A2, e2, x2, h2⟩ := k2
  exact ⟨A2, x2, h2, A1, e1, e2⟩
end
end
