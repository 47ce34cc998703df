noncomputable section
set_option linter.unusedVariables false
set_option linter.unusedSimpArgs false
/-! PLAIN 56: the house judges, 2 -/
def WrA (T : PTb) (A : OhI) : Prop := ∀ c r j, c < T.all → r < 9 → j < 32 → bt (A 422 c r) j = T.wbit c r j
section
variable {T : PTb} {Z : PZ} {FI : OhI} {FR GR : OhQ} {AI : OhI} {AR BR : OhQ} {AN : OhN} {n : Nat}
variable {k : Nat}
theorem jd_zero (h : HTb T Z FI FR GR AI BR AN) (hT : PTbOk T) (hn : 10000 ≤ n) (hk : k < T.all) :
    ∃ A, lpF (fun v : Int32 × OhI => mX1_judge_b23 n FI FR GR v.2 AR BR AN (J k) (some (Z.c (T.ord k))) v.1) n (J 0, AI) = some A ∧ eqx [422] AI A ∧ ∀ d q, A 422 d q = if d = T.ord k ∧ q < 8 then J 0 else AI 422 d q := by
  have hc := hT.ord k hk
  have h66 := hT.all
  have key : wp (lpF (fun v : Int32 × OhI => mX1_judge_b23 n FI FR GR v.2 AR BR AN (J k) (some (Z.c (T.ord k))) v.1) n (J 0, AI)) (fun A => eqx [422] AI A ∧ ∀ d q, A 422 d q = if d = T.ord k ∧ q < 8 then J 0 else AI 422 d q) := by
    refine wp_for 8 (fun r a => ∃ A, a = (J (r : Int), A) ∧ eqx [422] AI A ∧ ∀ d q, A 422 d q = if d = T.ord k ∧ q < r then J 0 else AI 422 d q) ?_ (k0 := 0) ⟨AI, rfl, eqx_refl, fun d q => by simp⟩ (by omega) (by omega)
    rintro r a hr ⟨A, rfl, x, ha⟩
    dsimp only
    unfold mX1_judge_b23
    by_cases e : r = 8
    · subst e
      ((repeat' (first | ((with_reducible apply wp_let); try dsimp only) | ((with_reducible apply wp_gdJ); (focus (first | ((simp (disch := omega) only [J_lit, J_add, J_sub, J_mul, J_neg, J_n, jle, jlt, jeq, jnn, jnat, Int.toNat_natCast, bJ_0, bJ_1, bft, gd_T, nar_J, nar_0, nar_1, if_true, if_false, Option.bind_some, gd_t]); rfl) | rfl)); (focus (first | exact True.intro | (first | exact vp_J (by omega) (by omega) (by omega) | omega)))) | ((with_reducible apply wp_ifJT); (focus (first | ((simp (disch := omega) only [J_lit, J_add, J_sub, J_mul, J_neg, J_n, jle, jlt, jeq, jnn, jnat, Int.toNat_natCast, bJ_0, bJ_1, bft, gd_T, nar_J, nar_0, nar_1, if_true, if_false, Option.bind_some, gd_t, decide_eq_false_iff_not, decide_eq_true_eq]); rfl) | rfl)); (focus (first | exact True.intro | omega))) | ((with_reducible apply wp_ifJF); (focus (first | ((simp (disch := omega) only [J_lit, J_add, J_sub, J_mul, J_neg, J_n, jle, jlt, jeq, jnn, jnat, Int.toNat_natCast, bJ_0, bJ_1, bft, gd_T, nar_J, nar_0, nar_1, if_true, if_false, Option.bind_some, gd_t, decide_eq_false_iff_not, decide_eq_true_eq]); rfl) | rfl)); (focus (first | exact not_false | omega))) | ((with_reducible apply wp_ifJ); (focus (first | ((simp (disch := omega) only [J_lit, J_add, J_sub, J_mul, J_neg, J_n, jle, jlt, jeq, jnn, jnat, Int.toNat_natCast, bJ_0, bJ_1, bft, gd_T, nar_J, nar_0, nar_1, if_true, if_false, Option.bind_some, gd_t, decide_eq_false_iff_not, decide_eq_true_eq]); rfl) | rfl)); all_goals intro _) | (with_reducible apply wp_some) | ((with_reducible apply wp_eli); try dsimp only) | ((with_reducible apply wp_elr); try dsimp only) | ((with_reducible apply wp_bindE); (focus ((simp (disch := omega) only [J_lit, J_add, J_sub, J_mul, J_neg, J_n, jle, jlt, jeq, jnn, jnat, Int.toNat_natCast, bJ_0, bJ_1, bft, gd_T, nar_J, nar_0, nar_1, if_true, if_false, Option.bind_some, gd_t]); rfl)); try dsimp only) | (with_reducible apply wp_bind))); all_goals (try (simp (disch := omega) only [J_lit, J_add, J_sub, J_mul, J_neg, J_n, jle, jlt, jeq, jnn, jnat, Int.toNat_natCast, bJ_0, bJ_1, bft, gd_T, nar_J, nar_0, nar_1, if_true, if_false, Option.bind_some, gd_t])))
      exact ⟨x, ha⟩
    · ((repeat' (first | ((with_reducible apply wp_let); try dsimp only) | ((with_reducible apply wp_gdJ); (focus (first | ((simp (disch := omega) only [J_lit, J_add, J_sub, J_mul, J_neg, J_n, jle, jlt, jeq, jnn, jnat, Int.toNat_natCast, bJ_0, bJ_1, bft, gd_T, nar_J, nar_0, nar_1, if_true, if_false, Option.bind_some, gd_t, h.cD hc, (h.ca _ hc).num]); rfl) | rfl)); (focus (first | exact True.intro | (first | exact vp_J (by omega) (by omega) (by omega) | omega)))) | ((with_reducible apply wp_ifJT); (focus (first | ((simp (disch := omega) only [J_lit, J_add, J_sub, J_mul, J_neg, J_n, jle, jlt, jeq, jnn, jnat, Int.toNat_natCast, bJ_0, bJ_1, bft, gd_T, nar_J, nar_0, nar_1, if_true, if_false, Option.bind_some, gd_t, decide_eq_false_iff_not, decide_eq_true_eq, h.cD hc, (h.ca _ hc).num]); rfl) | rfl)); (focus (first | exact True.intro | omega))) | ((with_reducible apply wp_ifJF); (focus (first | ((simp (disch := omega) only [J_lit, J_add, J_sub, J_mul, J_neg, J_n, jle, jlt, jeq, jnn, jnat, Int.toNat_natCast, bJ_0, bJ_1, bft, gd_T, nar_J, nar_0, nar_1, if_true, if_false, Option.bind_some, gd_t, decide_eq_false_iff_not, decide_eq_true_eq, h.cD hc, (h.ca _ hc).num]); rfl) | rfl)); (focus (first | exact not_false | omega))) | ((with_reducible apply wp_ifJ); (focus (first | ((simp (disch := omega) only [J_lit, J_add, J_sub, J_mul, J_neg, J_n, jle, jlt, jeq, jnn, jnat, Int.toNat_natCast, bJ_0, bJ_1, bft, gd_T, nar_J, nar_0, nar_1, if_true, if_false, Option.bind_some, gd_t, decide_eq_false_iff_not, decide_eq_true_eq, h.cD hc, (h.ca _ hc).num]); rfl) | rfl)); all_goals intro _) | (with_reducible apply wp_some) | ((with_reducible apply wp_eli); try dsimp only) | ((with_reducible apply wp_elr); try dsimp only) | ((with_reducible apply wp_bindE); (focus ((simp (disch := omega) only [J_lit, J_add, J_sub, J_mul, J_neg, J_n, jle, jlt, jeq, jnn, jnat, Int.toNat_natCast, bJ_0, bJ_1, bft, gd_T, nar_J, nar_0, nar_1, if_true, if_false, Option.bind_some, gd_t, h.cD hc, (h.ca _ hc).num]); rfl)); try dsimp only) | (with_reducible apply wp_bind))); all_goals (try (simp (disch := omega) only [J_lit, J_add, J_sub, J_mul, J_neg, J_n, jle, jlt, jeq, jnn, jnat, Int.toNat_natCast, bJ_0, bJ_1, bft, gd_T, nar_J, nar_0, nar_1, if_true, if_false, Option.bind_some, gd_t, h.cD hc, (h.ca _ hc).num])))
      refine ⟨by omega, _, rfl, eqx_trans x (eqx_sA (by decide)), fun d q => ?_⟩
      by_cases e1 : d = T.ord k
      · subst e1
        rw [sA_same]
        by_cases e2 : q = r
        · subst e2; rw [uA_same, if_pos ⟨rfl, by omega⟩]
        · rw [uA_ne _ _ e2, ha]
          by_cases e3 : q < r
          · rw [if_pos ⟨rfl, e3⟩, if_pos ⟨rfl, by omega⟩]
          · rw [if_neg (by omega), if_neg (by omega)]
      · rw [sA_idx _ _ e1, ha, if_neg (by simp [e1]), if_neg (by simp [e1])]
  obtain ⟨A, e, x, q⟩ := key
  exact ⟨A, e, x, q⟩
theorem jd_step (h : HTb T Z FI FR GR AI BR AN) (hT : PTbOk T) (hn : 10000 ≤ n) (hk : k < T.all) :
    wp (mX1_judge_b6 n FI FR GR AI AR BR AN (J k)) (fun v => ∃ A, v = .inl (J ((k : Int) + 1), A) ∧ eqx [422] AI A ∧ (∀ d q, d ≠ T.ord k → A 422 d q = AI 422 d q) ∧ ((∀ j, j < 32 → bt (AI 422 (T.ord k) 8) j = (j == 2 && T.bad (T.ord k))) → ∀ r j, r < 9 → j < 32 → bt (A 422 (T.ord k) r) j = T.wbit (T.ord k) r j)) := by
  have hc := hT.ord k hk
  have hb := hT.b hc
  have h66 := hT.all
  obtain ⟨A0, z0, x0, y0⟩ := jd_zero (n := n) (AR := AR) h hT hn hk
  have h0 := h.eqx_ x0 (by decide)
  have e1 := h_isTaken (n := n) (AR := AR) h hT hn hk
  have e2 : mX1_blame FI FR A0 AR BR AN (some (Z.c (T.ord k))) (J 8) (J 1) (bJ (T.taken (T.ord k))) = _ := h_bl (AR := AR) (r := 8) (k := 1) h0 (T.taken (T.ord k)) hc hT.all (by omega)
  have h1 := h0.bl_ (c := T.ord k) (r := 8) (k := 1) (b := T.taken (T.ord k))
  have w1 : T.wcF (T.ord k) 1 = T.taken (T.ord k) := by simp [PTb.wcF, PTb.wc]
  have w3 : T.wcF (T.ord k) 3 = T.unready (T.ord k) := by simp [PTb.wcF, PTb.wc]
  have x1 : eqx [422] A0 (bl A0 (T.ord k) 8 1 (T.taken (T.ord k))) := bl_x
  have g0 : ∀ b, T.wcF (T.ord k) 3 = b → blG (T.wcF (T.ord k)) (T.ord k) 8 A0 [1, 3, 4, 5, 6] = blG (T.wcF (T.ord k)) (T.ord k) 8 (bl (bl A0 (T.ord k) 8 1 (T.taken (T.ord k))) (T.ord k) 8 3 b) [4, 5, 6] := fun b hb => by rw [blG_c hb, blG_c w1]
  have e3 := h_isRehearsed (n := n) (AR := AR) h hT hn hc
  generalize bl A0 (T.ord k) 8 1 (T.taken (T.ord k)) = A1 at e2 h1 g0 x1
  have f0 : wp (mX1_judge_j86 n FI FR GR A1 AR BR AN (J k) (some (Z.c (T.ord k))) (some (Z.c (T.ord k))) (J 8) (J 3) (J 0)) _ := jd3 (n := n) (AR := AR) h1 hT hn hk false
  have f1 : wp (mX1_judge_j86 n FI FR GR A1 AR BR AN (J k) (some (Z.c (T.ord k))) (some (Z.c (T.ord k))) (J 8) (J 3) (J 1)) _ := jd3 (n := n) (AR := AR) h1 hT hn hk true
  have fin : ∀ v, jdQ T k (blG (T.wcF (T.ord k)) (T.ord k) 8 A0 [1, 3, 4, 5, 6]) v → (∃ A, v = .inl (J ((k : Int) + 1), A) ∧ eqx [422] AI A ∧ (∀ d q, d ≠ T.ord k → A 422 d q = AI 422 d q) ∧ ((∀ j, j < 32 → bt (AI 422 (T.ord k) 8) j = (j == 2 && T.bad (T.ord k))) → ∀ r j, r < 9 → j < 32 → bt (A 422 (T.ord k) r) j = T.wbit (T.ord k) r j)) := by
    rintro v ⟨A, rfl, xa, ya⟩
    refine ⟨A, rfl, eqx_trans x0 (eqx_trans blG_x xa), fun d q hd => bt_ext fun j hj => ?_, fun hs r j hr hj => ?_⟩
    · rw [ya d q j hj, blG_bt hj (by decide), y0, if_neg (by simp [hd])]; simp [hd]
    · rw [ya _ r j hj, blG_bt hj (by decide), y0]
      unfold PTb.wbit
      by_cases e : r = 8
      · subst e
        rw [if_neg (by omega), if_pos rfl, hs j hj]
        have e8 : ¬ (8 < T.nr (T.ord k)) := by omega
        by_cases e2 : j = 2
        · subst e2; rw [bad_kind]; simp [e8]
        · have : (1 ≤ j ∧ j ≤ 6) = (j ∈ [1, 3, 4, 5, 6]) := by apply propext; simp; omega
          simp [this, e8, e2, PTb.wcF]
      · rw [if_pos ⟨rfl, by omega⟩, if_neg e, bt_0]
        simp [e]
  unfold mX1_judge_b6 mX1_judge_j85
  ((repeat' (first | ((with_reducible apply wp_let); try dsimp only) | ((with_reducible apply wp_gdJ); (focus (first | ((simp (disch := omega) only [J_lit, J_add, J_sub, J_mul, J_neg, J_n, jle, jlt, jeq, jnn, jnat, Int.toNat_natCast, bJ_0, bJ_1, bft, gd_T, nar_J, nar_0, nar_1, if_true, if_false, Option.bind_some, gd_t, h.ordered, h.order, z0, e1, e2, h.cD hc, (h.ca _ hc).kind, e3]); rfl) | rfl)); (focus (first | exact True.intro | (first | exact vp_J (by omega) (by omega) (by omega) | omega)))) | ((with_reducible apply wp_ifJT); (focus (first | ((simp (disch := omega) only [J_lit, J_add, J_sub, J_mul, J_neg, J_n, jle, jlt, jeq, jnn, jnat, Int.toNat_natCast, bJ_0, bJ_1, bft, gd_T, nar_J, nar_0, nar_1, if_true, if_false, Option.bind_some, gd_t, decide_eq_false_iff_not, decide_eq_true_eq, h.ordered, h.order, z0, e1, e2, h.cD hc, (h.ca _ hc).kind, e3]); rfl) | rfl)); (focus (first | exact True.intro | omega))) | ((with_reducible apply wp_ifJF); (focus (first | ((simp (disch := omega) only [J_lit, J_add, J_sub, J_mul, J_neg, J_n, jle, jlt, jeq, jnn, jnat, Int.toNat_natCast, bJ_0, bJ_1, bft, gd_T, nar_J, nar_0, nar_1, if_true, if_false, Option.bind_some, gd_t, decide_eq_false_iff_not, decide_eq_true_eq, h.ordered, h.order, z0, e1, e2, h.cD hc, (h.ca _ hc).kind, e3]); rfl) | rfl)); (focus (first | exact not_false | omega))) | ((with_reducible apply wp_ifJ); (focus (first | ((simp (disch := omega) only [J_lit, J_add, J_sub, J_mul, J_neg, J_n, jle, jlt, jeq, jnn, jnat, Int.toNat_natCast, bJ_0, bJ_1, bft, gd_T, nar_J, nar_0, nar_1, if_true, if_false, Option.bind_some, gd_t, decide_eq_false_iff_not, decide_eq_true_eq, h.ordered, h.order, z0, e1, e2, h.cD hc, (h.ca _ hc).kind, e3]); rfl) | rfl)); all_goals intro _) | (with_reducible apply wp_some) | ((with_reducible apply wp_eli); try dsimp only) | ((with_reducible apply wp_elr); try dsimp only) | ((with_reducible apply wp_bindE); (focus ((simp (disch := omega) only [J_lit, J_add, J_sub, J_mul, J_neg, J_n, jle, jlt, jeq, jnn, jnat, Int.toNat_natCast, bJ_0, bJ_1, bft, gd_T, nar_J, nar_0, nar_1, if_true, if_false, Option.bind_some, gd_t, h.ordered, h.order, z0, e1, e2, h.cD hc, (h.ca _ hc).kind, e3]); rfl)); try dsimp only) | (with_reducible apply wp_bind))); all_goals (try (simp (disch := omega) only [J_lit, J_add, J_sub, J_mul, J_neg, J_n, jle, jlt, jeq, jnn, jnat, Int.toNat_natCast, bJ_0, bJ_1, bft, gd_T, nar_J, nar_0, nar_1, if_true, if_false, Option.bind_some, gd_t, h.ordered, h.order, z0, e1, e2, h.cD hc, (h.ca _ hc).kind, e3])))
  · rename_i q1 q2; rw [← g0 true (by rw [w3]; unfold PTb.unready; rw [decide_eq_true_eq]; omega)] at f1; exact wp_mono f1 fin
  · rename_i q1 q2; rw [← g0 false (by rw [w3]; unfold PTb.unready; rw [decide_eq_false_iff_not]; omega)] at f0; exact wp_mono f0 fin
  · rename_i q1; rw [← g0 false (by rw [w3]; unfold PTb.unready; rw [decide_eq_false_iff_not]; omega)] at f0; exact wp_mono f0 fin
theorem h_judge (h : HTb T Z FI FR GR AI BR AN) (hT : PTbOk T) (hl : HLn AN) (hw : HWg FI AI) (hn : 10000 ≤ n) (h324 : ∃ q, swA 324 q AI) :
    ∃ A, mX1_judge n FI FR GR AI AR BR AN = some A ∧ eqx [323, 324, 325, 422] AI A ∧ WrA T A ∧ (∃ q, swA 324 q A) := by
  have h66 := hT.all
  obtain ⟨A0, e0, x0, w0, q0⟩ := h_judgeSets (n := n) (AR := AR) h hT hl hw hn h324
  have h0 := h.eqx_ x0 (by decide)
  have key : wp (lpF (fun v : Int32 × OhI => mX1_judge_b6 n FI FR GR v.2 AR BR AN v.1) n (J 0, A0)) (fun A => eqx [422] A0 A ∧ WrA T A) := by
    refine wp_for T.all (fun k a => ∃ A, a = (J (k : Int), A) ∧ eqx [422] A0 A ∧ (∀ c, c < T.all → k ≤ T.pos c → ∀ q, A 422 c q = A0 422 c q) ∧ ∀ c r j, c < T.all → T.pos c < k → r < 9 → j < 32 → bt (A 422 c r) j = T.wbit c r j) ?_ (k0 := 0) ⟨A0, rfl, eqx_refl, fun _ _ _ _ => rfl, fun c r j _ hc => by omega⟩ (by omega) (by omega)
    rintro k a hk ⟨A, rfl, x, ho, hd⟩
    by_cases e : k = T.all
    · subst e
      dsimp only
      unfold mX1_judge_b6
      ((repeat' (first | ((with_reducible apply wp_let); try dsimp only) | ((with_reducible apply wp_gdJ); (focus (first | ((simp (disch := omega) only [J_lit, J_add, J_sub, J_mul, J_neg, J_n, jle, jlt, jeq, jnn, jnat, Int.toNat_natCast, bJ_0, bJ_1, bft, gd_T, nar_J, nar_0, nar_1, if_true, if_false, Option.bind_some, gd_t, h0.ordered]); rfl) | rfl)); (focus (first | exact True.intro | (first | exact vp_J (by omega) (by omega) (by omega) | omega)))) | ((with_reducible apply wp_ifJT); (focus (first | ((simp (disch := omega) only [J_lit, J_add, J_sub, J_mul, J_neg, J_n, jle, jlt, jeq, jnn, jnat, Int.toNat_natCast, bJ_0, bJ_1, bft, gd_T, nar_J, nar_0, nar_1, if_true, if_false, Option.bind_some, gd_t, decide_eq_false_iff_not, decide_eq_true_eq, h0.ordered]); rfl) | rfl)); (focus (first | exact True.intro | omega))) | ((with_reducible apply wp_ifJF); (focus (first | ((simp (disch := omega) only [J_lit, J_add, J_sub, J_mul, J_neg, J_n, jle, jlt, jeq, jnn, jnat, Int.toNat_natCast, bJ_0, bJ_1, bft, gd_T, nar_J, nar_0, nar_1, if_true, if_false, Option.bind_some, gd_t, decide_eq_false_iff_not, decide_eq_true_eq, h0.ordered]); rfl) | rfl)); (focus (first | exact not_false | omega))) | ((with_reducible apply wp_ifJ); (focus (first | ((simp (disch := omega) only [J_lit, J_add, J_sub, J_mul, J_neg, J_n, jle, jlt, jeq, jnn, jnat, Int.toNat_natCast, bJ_0, bJ_1, bft, gd_T, nar_J, nar_0, nar_1, if_true, if_false, Option.bind_some, gd_t, decide_eq_false_iff_not, decide_eq_true_eq, h0.ordered]); rfl) | rfl)); all_goals intro _) | (with_reducible apply wp_some) | ((with_reducible apply wp_eli); try dsimp only) | ((with_reducible apply wp_elr); try dsimp only) | ((with_reducible apply wp_bindE); (focus ((simp (disch := omega) only [J_lit, J_add, J_sub, J_mul, J_neg, J_n, jle, jlt, jeq, jnn, jnat, Int.toNat_natCast, bJ_0, bJ_1, bft, gd_T, nar_J, nar_0, nar_1, if_true, if_false, Option.bind_some, gd_t, h0.ordered]); rfl)); try dsimp only) | (with_reducible apply wp_bind))); all_goals (try (simp (disch := omega) only [J_lit, J_add, J_sub, J_mul, J_neg, J_n, jle, jlt, jeq, jnn, jnat, Int.toNat_natCast, bJ_0, bJ_1, bft, gd_T, nar_J, nar_0, nar_1, if_true, if_false, Option.bind_some, gd_t, h0.ordered])))
      exact ⟨x, fun c r j hc hr hj => hd c r j hc (hT.pos c hc) hr hj⟩
    · have hA := h0.eqx_ x (by decide)
      have hc := hT.ord k (by omega)
      have pk := hT.po k (by omega)
      refine wp_mono (jd_step (n := n) (AR := AR) hA hT hn (by omega : k < T.all)) ?_
      rintro v ⟨A2, rfl, x2, y2, b2⟩
      refine ⟨by omega, A2, rfl, eqx_trans x x2, fun c hc2 hp q => ?_, fun c r j hc2 hp hr hj => ?_⟩
      · have : c ≠ T.ord k := by rintro rfl; omega
        exact (y2 c q this).trans (ho c hc2 (by omega) q)
      · by_cases e2 : c = T.ord k
        · subst e2
          refine b2 (fun j hj => ?_) r j hr hj
          show bt (A 422 (T.ord k) 8) j = _
          rw [ho _ hc (by omega)]
          exact w0 _ hc trivial j hj
        · have : T.pos c ≠ k := fun z => e2 (by rw [← z, hT.op c hc2])
          rw [y2 c r e2]
          exact hd c r j hc2 (by omega) hr hj
  obtain ⟨A, e1, x1, w1⟩ := key
  refine ⟨A, wp_eq ?_, eqx_trans x0 (eqx_mono x1 (by decide)), w1, ?_⟩
  · unfold mX1_judge
    ((repeat' (first | ((with_reducible apply wp_let); try dsimp only) | ((with_reducible apply wp_gdJ); (focus (first | ((simp (disch := omega) only [J_lit, J_add, J_sub, J_mul, J_neg, J_n, jle, jlt, jeq, jnn, jnat, Int.toNat_natCast, bJ_0, bJ_1, bft, gd_T, nar_J, nar_0, nar_1, if_true, if_false, Option.bind_some, gd_t, e0, e1]); rfl) | rfl)); (focus (first | exact True.intro | (first | exact vp_J (by omega) (by omega) (by omega) | omega)))) | ((with_reducible apply wp_ifJT); (focus (first | ((simp (disch := omega) only [J_lit, J_add, J_sub, J_mul, J_neg, J_n, jle, jlt, jeq, jnn, jnat, Int.toNat_natCast, bJ_0, bJ_1, bft, gd_T, nar_J, nar_0, nar_1, if_true, if_false, Option.bind_some, gd_t, decide_eq_false_iff_not, decide_eq_true_eq, e0, e1]); rfl) | rfl)); (focus (first | exact True.intro | omega))) | ((with_reducible apply wp_ifJF); (focus (first | ((simp (disch := omega) only [J_lit, J_add, J_sub, J_mul, J_neg, J_n, jle, jlt, jeq, jnn, jnat, Int.toNat_natCast, bJ_0, bJ_1, bft, gd_T, nar_J, nar_0, nar_1, if_true, if_false, Option.bind_some, gd_t, decide_eq_false_iff_not, decide_eq_true_eq, e0, e1]); rfl) | rfl)); (focus (first | exact not_false | omega))) | ((with_reducible apply wp_ifJ); (focus (first | ((simp (disch := omega) only [J_lit, J_add, J_sub, J_mul, J_neg, J_n, jle, jlt, jeq, jnn, jnat, Int.toNat_natCast, bJ_0, bJ_1, bft, gd_T, nar_J, nar_0, nar_1, if_true, if_false, Option.bind_some, gd_t, decide_eq_false_iff_not, decide_eq_true_eq, e0, e1]); rfl) | rfl)); all_goals intro _) | (with_reducible apply wp_some) | ((with_reducible apply wp_eli); try dsimp only) | ((with_reducible apply wp_elr); try dsimp only) | ((with_reducible apply wp_bindE); (focus ((simp (disch := omega) only [J_lit, J_add, J_sub, J_mul, J_neg, J_n, jle, jlt, jeq, jnn, jnat, Int.toNat_natCast, bJ_0, bJ_1, bft, gd_T, nar_J, nar_0, nar_1, if_true, if_false, Option.bind_some, gd_t, e0, e1]); rfl)); try dsimp only) | (with_reducible apply wp_bind))); all_goals (try (simp (disch := omega) only [J_lit, J_add, J_sub, J_mul, J_neg, J_n, jle, jlt, jeq, jnn, jnat, Int.toNat_natCast, bJ_0, bJ_1, bft, gd_T, nar_J, nar_0, nar_1, if_true, if_false, Option.bind_some, gd_t, e0, e1])))
  · obtain ⟨q, hq⟩ := q0; exact ⟨q, fun i hi => by rw [x1 324 (by decide)]; exact hq i hi⟩
end
end
