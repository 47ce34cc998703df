noncomputable section
set_option linter.unusedVariables false
set_option linter.unusedSimpArgs false
/-! PLAIN 17: the twin's wagons, a move more -/
section
variable {n : Nat} {FR : OhQ} {AN : OhN} {AI : OhI} {cur : Nat → Bool}
theorem newM_skip (cur : Nat → Bool) (k : Nat) (h : cur k = false) : newM cur k 0 = newM cur (k + 1) 0 := by
  unfold newM; congr 1; funext x; rw [goM_skip cur k x h]
theorem newM_next (cur : Nat → Bool) (k : Nat) : newM cur k 4 = newM cur (k + 1) 0 := by
  unfold newM; congr 1; funext x; rw [goM_next]
theorem goM_succ (cur : Nat → Bool) (k m x : Nat) : goM cur k (m + 1) x = (goM cur k m x || (cur k && (nx (pl k m) (frN k) && mvN k m == x))) := by
  simp only [goM, anyN, Bool.and_or_distrib_left, Bool.or_assoc]
theorem q4_goOn1 (hn : 10000 ≤ n) (hg : ∀ x, x < 625 → cur x = true → good x = true) {k : Nat} (hk : k < 625) (hck : cur k = true) {A : OhI} (hA : ∀ x, x < 625 → A 180 0 x = bJ (goM cur k 0 x)) :
    ∃ A2, lpF (fun v : Int32 × Int32 × OhI => mX4_goOn_b80 n FR v.2.2 AN v.1 (J k) (J (frN k)) v.2.1) n (bJ (newM cur k 0), J 0, A) = some (bJ (newM cur k 4), A2) ∧ eqx [180] A A2 ∧ ∀ x, x < 625 → A2 180 0 x = bJ (goM cur k 4 x) := by
  have key : wp (lpF (fun v : Int32 × Int32 × OhI => mX4_goOn_b80 n FR v.2.2 AN v.1 (J k) (J (frN k)) v.2.1) n (bJ (newM cur k 0), J 0, A)) (fun r => ∃ A2, r = (bJ (newM cur k 4), A2) ∧ eqx [180] A A2 ∧ ∀ x, x < 625 → A2 180 0 x = bJ (goM cur k 4 x)) := by
    refine wp_for 4 (fun m a => ∃ A2, a = (bJ (newM cur k m), J m, A2) ∧ eqx [180] A A2 ∧ ∀ x, x < 625 → A2 180 0 x = bJ (goM cur k m x)) ?_ (k0 := 0) ⟨A, rfl, eqx_refl, hA⟩ (by omega) (by omega)
    rintro m a hm ⟨A2, rfl, x, h2⟩
    dsimp only
    unfold mX4_goOn_b80
    by_cases e : m = 4
    · subst e
      ((repeat' (first | ((with_reducible apply wp_let); try dsimp only) | ((with_reducible apply wp_gdJ); (focus (first | ((simp (disch := omega) only [J_lit, J_add, J_sub, J_mul, J_neg, J_n, jle, jlt, jeq, jnn, jnat, Int.toNat_natCast, bJ_0, bJ_1, bft, gd_T, nar_J, nar_0, nar_1, if_true, if_false, Option.bind_some, gd_t]); rfl) | rfl)); (focus (first | exact True.intro | (first | exact vp_J (by omega) (by omega) (by omega) | omega)))) | ((with_reducible apply wp_ifJT); (focus (first | ((simp (disch := omega) only [J_lit, J_add, J_sub, J_mul, J_neg, J_n, jle, jlt, jeq, jnn, jnat, Int.toNat_natCast, bJ_0, bJ_1, bft, gd_T, nar_J, nar_0, nar_1, if_true, if_false, Option.bind_some, gd_t]); rfl) | rfl)); (focus (first | exact True.intro | omega))) | ((with_reducible apply wp_ifJF); (focus (first | ((simp (disch := omega) only [J_lit, J_add, J_sub, J_mul, J_neg, J_n, jle, jlt, jeq, jnn, jnat, Int.toNat_natCast, bJ_0, bJ_1, bft, gd_T, nar_J, nar_0, nar_1, if_true, if_false, Option.bind_some, gd_t]); rfl) | rfl)); (focus (first | exact not_false | omega))) | ((with_reducible apply wp_ifJ); (focus (first | ((simp (disch := omega) only [J_lit, J_add, J_sub, J_mul, J_neg, J_n, jle, jlt, jeq, jnn, jnat, Int.toNat_natCast, bJ_0, bJ_1, bft, gd_T, nar_J, nar_0, nar_1, if_true, if_false, Option.bind_some, gd_t]); rfl) | rfl)); all_goals intro _) | (with_reducible apply wp_some) | ((with_reducible apply wp_eli); try dsimp only) | ((with_reducible apply wp_elr); try dsimp only) | ((with_reducible apply wp_bindE); (focus ((simp (disch := omega) only [J_lit, J_add, J_sub, J_mul, J_neg, J_n, jle, jlt, jeq, jnn, jnat, Int.toNat_natCast, bJ_0, bJ_1, bft, gd_T, nar_J, nar_0, nar_1, if_true, if_false, Option.bind_some, gd_t]); rfl)); try dsimp only) | (with_reducible apply wp_bind))); all_goals (try (simp (disch := omega) only [J_lit, J_add, J_sub, J_mul, J_neg, J_n, jle, jlt, jeq, jnn, jnat, Int.toNat_natCast, bJ_0, bJ_1, bft, gd_T, nar_J, nar_0, nar_1, if_true, if_false, Option.bind_some, gd_t])))
      exact ⟨A2, rfl, x, h2⟩
    · obtain ⟨g1, g2, g3, g4, g5⟩ := goo hk (by omega : m < 4) (hg k hk hck)
      have hp := pl_lt k m
      have e1 := h2 (mvN k m) g4
      ((repeat' (first | ((with_reducible apply wp_let); try dsimp only) | ((with_reducible apply wp_gdJ); (focus (first | ((simp (disch := omega) only [J_lit, J_add, J_sub, J_mul, J_neg, J_n, jle, jlt, jeq, jnn, jnat, Int.toNat_natCast, bJ_0, bJ_1, bft, gd_T, nar_J, nar_0, nar_1, if_true, if_false, Option.bind_some, gd_t, q4_placeOf hk (by omega : m < 4), q4_areNext hp g3, q4_moved hk (by omega : m < 4) (hg k hk hck), e1]); rfl) | rfl)); (focus (first | exact True.intro | (first | exact vp_J (by omega) (by omega) (by omega) | omega)))) | ((with_reducible apply wp_ifJT); (focus (first | ((simp (disch := omega) only [J_lit, J_add, J_sub, J_mul, J_neg, J_n, jle, jlt, jeq, jnn, jnat, Int.toNat_natCast, bJ_0, bJ_1, bft, gd_T, nar_J, nar_0, nar_1, if_true, if_false, Option.bind_some, gd_t, q4_placeOf hk (by omega : m < 4), q4_areNext hp g3, q4_moved hk (by omega : m < 4) (hg k hk hck), e1]); rfl) | rfl)); (focus (first | exact True.intro | omega))) | ((with_reducible apply wp_ifJF); (focus (first | ((simp (disch := omega) only [J_lit, J_add, J_sub, J_mul, J_neg, J_n, jle, jlt, jeq, jnn, jnat, Int.toNat_natCast, bJ_0, bJ_1, bft, gd_T, nar_J, nar_0, nar_1, if_true, if_false, Option.bind_some, gd_t, q4_placeOf hk (by omega : m < 4), q4_areNext hp g3, q4_moved hk (by omega : m < 4) (hg k hk hck), e1]); rfl) | rfl)); (focus (first | exact not_false | omega))) | ((with_reducible apply wp_ifJ); (focus (first | ((simp (disch := omega) only [J_lit, J_add, J_sub, J_mul, J_neg, J_n, jle, jlt, jeq, jnn, jnat, Int.toNat_natCast, bJ_0, bJ_1, bft, gd_T, nar_J, nar_0, nar_1, if_true, if_false, Option.bind_some, gd_t, q4_placeOf hk (by omega : m < 4), q4_areNext hp g3, q4_moved hk (by omega : m < 4) (hg k hk hck), e1]); rfl) | rfl)); all_goals intro _) | (with_reducible apply wp_some) | ((with_reducible apply wp_eli); try dsimp only) | ((with_reducible apply wp_elr); try dsimp only) | ((with_reducible apply wp_bindE); (focus ((simp (disch := omega) only [J_lit, J_add, J_sub, J_mul, J_neg, J_n, jle, jlt, jeq, jnn, jnat, Int.toNat_natCast, bJ_0, bJ_1, bft, gd_T, nar_J, nar_0, nar_1, if_true, if_false, Option.bind_some, gd_t, q4_placeOf hk (by omega : m < 4), q4_areNext hp g3, q4_moved hk (by omega : m < 4) (hg k hk hck), e1]); rfl)); try dsimp only) | (with_reducible apply wp_bind))); all_goals (try (simp (disch := omega) only [J_lit, J_add, J_sub, J_mul, J_neg, J_n, jle, jlt, jeq, jnn, jnat, Int.toNat_natCast, bJ_0, bJ_1, bft, gd_T, nar_J, nar_0, nar_1, if_true, if_false, Option.bind_some, gd_t, q4_placeOf hk (by omega : m < 4), q4_areNext hp g3, q4_moved hk (by omega : m < 4) (hg k hk hck), e1])))
      · rename_i hnx
        have eg : ∀ y, goM cur k (m + 1) y = goM cur k m y := fun y => by rw [goM_succ, hnx]; simp
        refine ⟨by omega, A2, ?_, x, fun y hy => by rw [eg]; exact h2 y hy⟩
        unfold newM; simp only [eg]; rfl
      · rename_i hnx hgo
        have hnx' : nx (pl k m) (frN k) = true := by simpa using hnx
        have eg : ∀ y, goM cur k (m + 1) y = (goM cur k m y || mvN k m == y) := fun y => by rw [goM_succ, hnx', hck]; simp
        refine ⟨by omega, sA A2 180 0 (uA (A2 180 0) (mvN k m) (J 1)), ?_, eqx_trans x (eqx_sA (by decide)), fun y hy => ?_⟩
        · have : newM cur k (m + 1) = true := by
            unfold newM
            refine anyN_of g4 ?_
            rw [eg]
            have hcm : cur (mvN k m) = false := by
              by_cases q : cur (mvN k m) = true
              · exfalso
                have : goM cur k m (mvN k m) = true := by simp [goM, q]
                rw [this] at hgo; cases hgo
              · simpa using q
            simp [hcm]
          rw [this]; rfl
        · rw [sA_same, eg]
          by_cases q : y = mvN k m
          · subst q; rw [uA_same]; simp [bJ]
          · rw [uA_ne _ _ q, h2 y hy]
            have : (mvN k m == y) = false := by simp [Ne.symm q]
            rw [this, Bool.or_false]
      · rename_i hnx hgo
        have hgo' : goM cur k m (mvN k m) = true := by simpa using hgo
        have eg : ∀ y, goM cur k (m + 1) y = goM cur k m y := fun y => by
          rw [goM_succ]
          by_cases q : mvN k m = y
          · subst q; rw [hgo']; simp
          · have : (mvN k m == y) = false := by simp [q]
            rw [this]; simp
        refine ⟨by omega, A2, ?_, x, fun y hy => by rw [eg]; exact h2 y hy⟩
        unfold newM; simp only [eg]; rfl
  obtain ⟨r, e, A2, rfl, x, h⟩ := key
  exact ⟨A2, e, x, h⟩
theorem q4_goOn (hn : 10000 ≤ n) (hg : ∀ x, x < 625 → cur x = true → good x = true) (hc : cuA cur AI) :
    ∃ A, mX4_goOn n FR AI AN = some (bJ (moreS cur), A) ∧ eqx [180, 181] AI A ∧ cuA (goOnS cur) A := by
  have k1 : wp (lpF (fun v : Int32 × OhI => mX4_goOn_b2 n FR v.2 AN v.1) n (J 0, AI)) (fun A => eqx [181] AI A ∧ ∀ x, x < 625 → A 181 0 x = bJ (cur x)) := by
    refine wp_for 625 (fun k a => ∃ A, a = (J k, A) ∧ eqx [181] AI A ∧ ∀ x, x < k → A 181 0 x = bJ (cur x)) ?_ (k0 := 0) ⟨AI, rfl, eqx_refl, fun i hi => by omega⟩ (by omega) (by omega)
    rintro k a hk ⟨A, rfl, x, ho⟩
    dsimp only
    unfold mX4_goOn_b2
    by_cases e : k = 625
    · subst e
      ((repeat' (first | ((with_reducible apply wp_let); try dsimp only) | ((with_reducible apply wp_gdJ); (focus (first | ((simp (disch := omega) only [J_lit, J_add, J_sub, J_mul, J_neg, J_n, jle, jlt, jeq, jnn, jnat, Int.toNat_natCast, bJ_0, bJ_1, bft, gd_T, nar_J, nar_0, nar_1, if_true, if_false, Option.bind_some, gd_t]); rfl) | rfl)); (focus (first | exact True.intro | (first | exact vp_J (by omega) (by omega) (by omega) | omega)))) | ((with_reducible apply wp_ifJT); (focus (first | ((simp (disch := omega) only [J_lit, J_add, J_sub, J_mul, J_neg, J_n, jle, jlt, jeq, jnn, jnat, Int.toNat_natCast, bJ_0, bJ_1, bft, gd_T, nar_J, nar_0, nar_1, if_true, if_false, Option.bind_some, gd_t]); rfl) | rfl)); (focus (first | exact True.intro | omega))) | ((with_reducible apply wp_ifJF); (focus (first | ((simp (disch := omega) only [J_lit, J_add, J_sub, J_mul, J_neg, J_n, jle, jlt, jeq, jnn, jnat, Int.toNat_natCast, bJ_0, bJ_1, bft, gd_T, nar_J, nar_0, nar_1, if_true, if_false, Option.bind_some, gd_t]); rfl) | rfl)); (focus (first | exact not_false | omega))) | ((with_reducible apply wp_ifJ); (focus (first | ((simp (disch := omega) only [J_lit, J_add, J_sub, J_mul, J_neg, J_n, jle, jlt, jeq, jnn, jnat, Int.toNat_natCast, bJ_0, bJ_1, bft, gd_T, nar_J, nar_0, nar_1, if_true, if_false, Option.bind_some, gd_t]); rfl) | rfl)); all_goals intro _) | (with_reducible apply wp_some) | ((with_reducible apply wp_eli); try dsimp only) | ((with_reducible apply wp_elr); try dsimp only) | ((with_reducible apply wp_bindE); (focus ((simp (disch := omega) only [J_lit, J_add, J_sub, J_mul, J_neg, J_n, jle, jlt, jeq, jnn, jnat, Int.toNat_natCast, bJ_0, bJ_1, bft, gd_T, nar_J, nar_0, nar_1, if_true, if_false, Option.bind_some, gd_t]); rfl)); try dsimp only) | (with_reducible apply wp_bind))); all_goals (try (simp (disch := omega) only [J_lit, J_add, J_sub, J_mul, J_neg, J_n, jle, jlt, jeq, jnn, jnat, Int.toNat_natCast, bJ_0, bJ_1, bft, gd_T, nar_J, nar_0, nar_1, if_true, if_false, Option.bind_some, gd_t])))
      exact ⟨x, ho⟩
    · have e1 : A 180 0 k = bJ (cur k) := by rw [x 180 (by decide)]; exact hc k (by omega)
      ((repeat' (first | ((with_reducible apply wp_let); try dsimp only) | ((with_reducible apply wp_gdJ); (focus (first | ((simp (disch := omega) only [J_lit, J_add, J_sub, J_mul, J_neg, J_n, jle, jlt, jeq, jnn, jnat, Int.toNat_natCast, bJ_0, bJ_1, bft, gd_T, nar_J, nar_0, nar_1, if_true, if_false, Option.bind_some, gd_t, e1]); rfl) | rfl)); (focus (first | exact True.intro | (first | exact vp_J (by omega) (by omega) (by omega) | omega)))) | ((with_reducible apply wp_ifJT); (focus (first | ((simp (disch := omega) only [J_lit, J_add, J_sub, J_mul, J_neg, J_n, jle, jlt, jeq, jnn, jnat, Int.toNat_natCast, bJ_0, bJ_1, bft, gd_T, nar_J, nar_0, nar_1, if_true, if_false, Option.bind_some, gd_t, e1]); rfl) | rfl)); (focus (first | exact True.intro | omega))) | ((with_reducible apply wp_ifJF); (focus (first | ((simp (disch := omega) only [J_lit, J_add, J_sub, J_mul, J_neg, J_n, jle, jlt, jeq, jnn, jnat, Int.toNat_natCast, bJ_0, bJ_1, bft, gd_T, nar_J, nar_0, nar_1, if_true, if_false, Option.bind_some, gd_t, e1]); rfl) | rfl)); (focus (first | exact not_false | omega))) | ((with_reducible apply wp_ifJ); (focus (first | ((simp (disch := omega) only [J_lit, J_add, J_sub, J_mul, J_neg, J_n, jle, jlt, jeq, jnn, jnat, Int.toNat_natCast, bJ_0, bJ_1, bft, gd_T, nar_J, nar_0, nar_1, if_true, if_false, Option.bind_some, gd_t, e1]); rfl) | rfl)); all_goals intro _) | (with_reducible apply wp_some) | ((with_reducible apply wp_eli); try dsimp only) | ((with_reducible apply wp_elr); try dsimp only) | ((with_reducible apply wp_bindE); (focus ((simp (disch := omega) only [J_lit, J_add, J_sub, J_mul, J_neg, J_n, jle, jlt, jeq, jnn, jnat, Int.toNat_natCast, bJ_0, bJ_1, bft, gd_T, nar_J, nar_0, nar_1, if_true, if_false, Option.bind_some, gd_t, e1]); rfl)); try dsimp only) | (with_reducible apply wp_bind))); all_goals (try (simp (disch := omega) only [J_lit, J_add, J_sub, J_mul, J_neg, J_n, jle, jlt, jeq, jnn, jnat, Int.toNat_natCast, bJ_0, bJ_1, bft, gd_T, nar_J, nar_0, nar_1, if_true, if_false, Option.bind_some, gd_t, e1])))
      refine ⟨by omega, _, rfl, eqx_trans x (eqx_sA (by decide)), fun i hi => ?_⟩
      rw [sA_same]
      by_cases q : i = k
      · subst q; rw [uA_same]
      · rw [uA_ne _ _ q]; exact ho i (by omega)
  obtain ⟨A1, e1, x1, h1⟩ := k1
  have k2 : wp (lpF (fun v : Int32 × Int32 × OhI => mX4_goOn_b31 n FR v.2.2 AN v.1 v.2.1) n (J 0, J 0, A1)) (fun r => ∃ A, r = (bJ (moreS cur), A) ∧ eqx [180] A1 A ∧ cuA (goOnS cur) A) := by
    have h0 : newM cur 0 0 = false := by
      unfold newM
      cases q : anyN 625 (fun x => goM cur 0 0 x && !cur x) with
      | false => rfl
      | true =>
        obtain ⟨x, _, hx⟩ := anyN_iff.mp q
        simp [goM, anyN] at hx
    refine wp_for 625 (fun k a => ∃ A, a = (bJ (newM cur k 0), J k, A) ∧ eqx [180] A1 A ∧ ∀ x, x < 625 → A 180 0 x = bJ (goM cur k 0 x)) ?_ (k0 := 0) ⟨A1, by rw [h0]; rfl, eqx_refl, fun i hi => by rw [x1 180 (by decide), hc i hi]; simp [goM, anyN]⟩ (by omega) (by omega)
    rintro k a hk ⟨A, rfl, x, ho⟩
    dsimp only
    unfold mX4_goOn_b31
    by_cases e : k = 625
    · subst e
      ((repeat' (first | ((with_reducible apply wp_let); try dsimp only) | ((with_reducible apply wp_gdJ); (focus (first | ((simp (disch := omega) only [J_lit, J_add, J_sub, J_mul, J_neg, J_n, jle, jlt, jeq, jnn, jnat, Int.toNat_natCast, bJ_0, bJ_1, bft, gd_T, nar_J, nar_0, nar_1, if_true, if_false, Option.bind_some, gd_t]); rfl) | rfl)); (focus (first | exact True.intro | (first | exact vp_J (by omega) (by omega) (by omega) | omega)))) | ((with_reducible apply wp_ifJT); (focus (first | ((simp (disch := omega) only [J_lit, J_add, J_sub, J_mul, J_neg, J_n, jle, jlt, jeq, jnn, jnat, Int.toNat_natCast, bJ_0, bJ_1, bft, gd_T, nar_J, nar_0, nar_1, if_true, if_false, Option.bind_some, gd_t]); rfl) | rfl)); (focus (first | exact True.intro | omega))) | ((with_reducible apply wp_ifJF); (focus (first | ((simp (disch := omega) only [J_lit, J_add, J_sub, J_mul, J_neg, J_n, jle, jlt, jeq, jnn, jnat, Int.toNat_natCast, bJ_0, bJ_1, bft, gd_T, nar_J, nar_0, nar_1, if_true, if_false, Option.bind_some, gd_t]); rfl) | rfl)); (focus (first | exact not_false | omega))) | ((with_reducible apply wp_ifJ); (focus (first | ((simp (disch := omega) only [J_lit, J_add, J_sub, J_mul, J_neg, J_n, jle, jlt, jeq, jnn, jnat, Int.toNat_natCast, bJ_0, bJ_1, bft, gd_T, nar_J, nar_0, nar_1, if_true, if_false, Option.bind_some, gd_t]); rfl) | rfl)); all_goals intro _) | (with_reducible apply wp_some) | ((with_reducible apply wp_eli); try dsimp only) | ((with_reducible apply wp_elr); try dsimp only) | ((with_reducible apply wp_bindE); (focus ((simp (disch := omega) only [J_lit, J_add, J_sub, J_mul, J_neg, J_n, jle, jlt, jeq, jnn, jnat, Int.toNat_natCast, bJ_0, bJ_1, bft, gd_T, nar_J, nar_0, nar_1, if_true, if_false, Option.bind_some, gd_t]); rfl)); try dsimp only) | (with_reducible apply wp_bind))); all_goals (try (simp (disch := omega) only [J_lit, J_add, J_sub, J_mul, J_neg, J_n, jle, jlt, jeq, jnn, jnat, Int.toNat_natCast, bJ_0, bJ_1, bft, gd_T, nar_J, nar_0, nar_1, if_true, if_false, Option.bind_some, gd_t])))
      exact ⟨A, by rw [moreS_def], x, fun i hi => by rw [goOnS_def]; exact ho i hi⟩
    · have e1 : A 181 0 k = bJ (cur k) := by rw [x 181 (by decide)]; exact h1 k (by omega)
      have p0 : mX4_placeOf (J k) (J 0) = some (J (pl k 0)) := q4_placeOf (k := k) (s := 0) (by omega) (by omega)
      have p1 : mX4_placeOf (J k) (J 1) = some (J (pl k 1)) := q4_placeOf (k := k) (s := 1) (by omega) (by omega)
      have p2 : mX4_placeOf (J k) (J 2) = some (J (pl k 2)) := q4_placeOf (k := k) (s := 2) (by omega) (by omega)
      have p3 : mX4_placeOf (J k) (J 3) = some (J (pl k 3)) := q4_placeOf (k := k) (s := 3) (by omega) (by omega)
      by_cases hck : cur k = true
      · obtain ⟨g1, g2, g3, g4, g5⟩ := goo (k := k) (s := 0) (by omega) (by omega) (hg k (by omega) hck)
        obtain ⟨A2, e2, x2, h2⟩ := q4_goOn1 (n := n) (FR := FR) (AN := AN) hn hg (k := k) (by omega) hck ho
        ((repeat' (first | ((with_reducible apply wp_let); try dsimp only) | ((with_reducible apply wp_gdJ); (focus (first | ((simp (disch := omega) only [J_lit, J_add, J_sub, J_mul, J_neg, J_n, jle, jlt, jeq, jnn, jnat, Int.toNat_natCast, bJ_0, bJ_1, bft, gd_T, nar_J, nar_0, nar_1, if_true, if_false, Option.bind_some, gd_t, e1, p0, p1, p2, p3, g1, e2]); rfl) | rfl)); (focus (first | exact True.intro | (first | exact vp_J (by omega) (by omega) (by omega) | omega)))) | ((with_reducible apply wp_ifJT); (focus (first | ((simp (disch := omega) only [J_lit, J_add, J_sub, J_mul, J_neg, J_n, jle, jlt, jeq, jnn, jnat, Int.toNat_natCast, bJ_0, bJ_1, bft, gd_T, nar_J, nar_0, nar_1, if_true, if_false, Option.bind_some, gd_t, e1, p0, p1, p2, p3, g1, e2]); rfl) | rfl)); (focus (first | exact True.intro | omega))) | ((with_reducible apply wp_ifJF); (focus (first | ((simp (disch := omega) only [J_lit, J_add, J_sub, J_mul, J_neg, J_n, jle, jlt, jeq, jnn, jnat, Int.toNat_natCast, bJ_0, bJ_1, bft, gd_T, nar_J, nar_0, nar_1, if_true, if_false, Option.bind_some, gd_t, e1, p0, p1, p2, p3, g1, e2]); rfl) | rfl)); (focus (first | exact not_false | omega))) | ((with_reducible apply wp_ifJ); (focus (first | ((simp (disch := omega) only [J_lit, J_add, J_sub, J_mul, J_neg, J_n, jle, jlt, jeq, jnn, jnat, Int.toNat_natCast, bJ_0, bJ_1, bft, gd_T, nar_J, nar_0, nar_1, if_true, if_false, Option.bind_some, gd_t, e1, p0, p1, p2, p3, g1, e2]); rfl) | rfl)); all_goals intro _) | (with_reducible apply wp_some) | ((with_reducible apply wp_eli); try dsimp only) | ((with_reducible apply wp_elr); try dsimp only) | ((with_reducible apply wp_bindE); (focus ((simp (disch := omega) only [J_lit, J_add, J_sub, J_mul, J_neg, J_n, jle, jlt, jeq, jnn, jnat, Int.toNat_natCast, bJ_0, bJ_1, bft, gd_T, nar_J, nar_0, nar_1, if_true, if_false, Option.bind_some, gd_t, e1, p0, p1, p2, p3, g1, e2]); rfl)); try dsimp only) | (with_reducible apply wp_bind))); all_goals (try (simp (disch := omega) only [J_lit, J_add, J_sub, J_mul, J_neg, J_n, jle, jlt, jeq, jnn, jnat, Int.toNat_natCast, bJ_0, bJ_1, bft, gd_T, nar_J, nar_0, nar_1, if_true, if_false, Option.bind_some, gd_t, e1, p0, p1, p2, p3, g1, e2])))
        · rename_i q; rw [hck] at q; cases q
        · rw [newM_next]
          exact ⟨by omega, A2, rfl, eqx_trans x x2, fun i hi => by rw [h2 i hi, goM_next]⟩
      · have hck' : cur k = false := by simpa using hck
        ((repeat' (first | ((with_reducible apply wp_let); try dsimp only) | ((with_reducible apply wp_gdJ); (focus (first | ((simp (disch := omega) only [J_lit, J_add, J_sub, J_mul, J_neg, J_n, jle, jlt, jeq, jnn, jnat, Int.toNat_natCast, bJ_0, bJ_1, bft, gd_T, nar_J, nar_0, nar_1, if_true, if_false, Option.bind_some, gd_t, e1, hck']); rfl) | rfl)); (focus (first | exact True.intro | (first | exact vp_J (by omega) (by omega) (by omega) | omega)))) | ((with_reducible apply wp_ifJT); (focus (first | ((simp (disch := omega) only [J_lit, J_add, J_sub, J_mul, J_neg, J_n, jle, jlt, jeq, jnn, jnat, Int.toNat_natCast, bJ_0, bJ_1, bft, gd_T, nar_J, nar_0, nar_1, if_true, if_false, Option.bind_some, gd_t, e1, hck']); rfl) | rfl)); (focus (first | exact True.intro | omega))) | ((with_reducible apply wp_ifJF); (focus (first | ((simp (disch := omega) only [J_lit, J_add, J_sub, J_mul, J_neg, J_n, jle, jlt, jeq, jnn, jnat, Int.toNat_natCast, bJ_0, bJ_1, bft, gd_T, nar_J, nar_0, nar_1, if_true, if_false, Option.bind_some, gd_t, e1, hck']); rfl) | rfl)); (focus (first | exact not_false | omega))) | ((with_reducible apply wp_ifJ); (focus (first | ((simp (disch := omega) only [J_lit, J_add, J_sub, J_mul, J_neg, J_n, jle, jlt, jeq, jnn, jnat, Int.toNat_natCast, bJ_0, bJ_1, bft, gd_T, nar_J, nar_0, nar_1, if_true, if_false, Option.bind_some, gd_t, e1, hck']); rfl) | rfl)); all_goals intro _) | (with_reducible apply wp_some) | ((with_reducible apply wp_eli); try dsimp only) | ((with_reducible apply wp_elr); try dsimp only) | ((with_reducible apply wp_bindE); (focus ((simp (disch := omega) only [J_lit, J_add, J_sub, J_mul, J_neg, J_n, jle, jlt, jeq, jnn, jnat, Int.toNat_natCast, bJ_0, bJ_1, bft, gd_T, nar_J, nar_0, nar_1, if_true, if_false, Option.bind_some, gd_t, e1, hck']); rfl)); try dsimp only) | (with_reducible apply wp_bind))); all_goals (try (simp (disch := omega) only [J_lit, J_add, J_sub, J_mul, J_neg, J_n, jle, jlt, jeq, jnn, jnat, Int.toNat_natCast, bJ_0, bJ_1, bft, gd_T, nar_J, nar_0, nar_1, if_true, if_false, Option.bind_some, gd_t, e1, hck'])))
        rw [newM_skip cur k hck']
        exact ⟨by omega, A, rfl, x, fun i hi => by rw [ho i hi, goM_skip cur k i hck']⟩
  obtain ⟨r, e2, A2, rfl, x2, h2⟩ := k2
  refine ⟨A2, wp_eq ?_, eqx_trans (eqx_mono x1 (by decide)) (eqx_mono x2 (by decide)), h2⟩
  unfold mX4_goOn
  ((repeat' (first | ((with_reducible apply wp_let); try dsimp only) | ((with_reducible apply wp_gdJ); (focus (first | ((simp (disch := omega) only [J_lit, J_add, J_sub, J_mul, J_neg, J_n, jle, jlt, jeq, jnn, jnat, Int.toNat_natCast, bJ_0, bJ_1, bft, gd_T, nar_J, nar_0, nar_1, if_true, if_false, Option.bind_some, gd_t, e1, e2]); rfl) | rfl)); (focus (first | exact True.intro | (first | exact vp_J (by omega) (by omega) (by omega) | omega)))) | ((with_reducible apply wp_ifJT); (focus (first | ((simp (disch := omega) only [J_lit, J_add, J_sub, J_mul, J_neg, J_n, jle, jlt, jeq, jnn, jnat, Int.toNat_natCast, bJ_0, bJ_1, bft, gd_T, nar_J, nar_0, nar_1, if_true, if_false, Option.bind_some, gd_t, e1, e2]); rfl) | rfl)); (focus (first | exact True.intro | omega))) | ((with_reducible apply wp_ifJF); (focus (first | ((simp (disch := omega) only [J_lit, J_add, J_sub, J_mul, J_neg, J_n, jle, jlt, jeq, jnn, jnat, Int.toNat_natCast, bJ_0, bJ_1, bft, gd_T, nar_J, nar_0, nar_1, if_true, if_false, Option.bind_some, gd_t, e1, e2]); rfl) | rfl)); (focus (first | exact not_false | omega))) | ((with_reducible apply wp_ifJ); (focus (first | ((simp (disch := omega) only [J_lit, J_add, J_sub, J_mul, J_neg, J_n, jle, jlt, jeq, jnn, jnat, Int.toNat_natCast, bJ_0, bJ_1, bft, gd_T, nar_J, nar_0, nar_1, if_true, if_false, Option.bind_some, gd_t, e1, e2]); rfl) | rfl)); all_goals intro _) | (with_reducible apply wp_some) | ((with_reducible apply wp_eli); try dsimp only) | ((with_reducible apply wp_elr); try dsimp only) | ((with_reducible apply wp_bindE); (focus ((simp (disch := omega) only [J_lit, J_add, J_sub, J_mul, J_neg, J_n, jle, jlt, jeq, jnn, jnat, Int.toNat_natCast, bJ_0, bJ_1, bft, gd_T, nar_J, nar_0, nar_1, if_true, if_false, Option.bind_some, gd_t, e1, e2]); rfl)); try dsimp only) | (with_reducible apply wp_bind))); all_goals (try (simp (disch := omega) only [J_lit, J_add, J_sub, J_mul, J_neg, J_n, jle, jlt, jeq, jnn, jnat, Int.toNat_natCast, bJ_0, bJ_1, bft, gd_T, nar_J, nar_0, nar_1, if_true, if_false, Option.bind_some, gd_t, e1, e2])))
end
end
