noncomputable section
set_option linter.unusedVariables false
set_option linter.unusedSimpArgs false
/-! PLAIN 44: what the house's questions answer, 4 -/
section
variable {T : PTb} {Z : PZ} {FI : OhI} {FR GR : OhQ} {AI : OhI} {AR BR : OhQ} {AN : OhN} {n : Nat}
theorem h_learnedOf (h : HTb T Z FI FR GR AI BR AN) (hT : PTbOk T) (hn : 10000 ≤ n) {s o r : Nat} {m : Int} (hs : s < 20) (ho : o < T.S.nO) (hr : r < 8) (h1 : -2147483648 ≤ m) (h2 : m < 2147483648) : mX1_learnedOf n FI FR GR AI AR BR AN (J s) (some (Z.o o)) (J r) (J m) = some (J (T.learned s o r m)) := by
  have h66 := hT.all
  have hL := hT.S.nL
  have ha := hT.asOf
  have hO := hT.S.nO
  have eD : oD 4 (some (Z.o o)) = some (Z.o o) := oD_of (h.op o ho).kd
  have k1 : lpF (fun v : Int32 × Int32 => mX1_learnedOf_b6 n FI FR GR AI AR BR AN (J s) (some (Z.o o)) (J r) (J m) v.1 v.2) n (J 0, J 0) = some (J (sumN T.S.nL (fun k => if (T.S.le k).day ≤ T.asOf ∧ (T.S.le k).s = s ∧ (T.S.le k).op = o ∧ (T.S.le k).role = r then (T.S.le k).hours else 0))) := by
    refine wp_fold (fun k => (J (sumN k (fun k => if (T.S.le k).day ≤ T.asOf ∧ (T.S.le k).s = s ∧ (T.S.le k).op = o ∧ (T.S.le k).role = r then (T.S.le k).hours else 0)), J (k : Int))) _ T.S.nL ?_ ?_ (by omega) rfl
    · intro k hk
      have hb2 := hT.S.le k hk
      have hb3 := hT.S.nS
      have hb5 := (hT.S.op (T.S.le k).op hb2.2.1).nr
      obtain ⟨q0, q1, q2, q3, q4, q5⟩ := h.le k hk
      dsimp only
      unfold mX1_learnedOf_b6
      ((repeat' (first | ((with_reducible apply wp_let); try dsimp only) | ((with_reducible apply wp_gdJ); (focus (first | ((simp (disch := omega) only [J_lit, J_add, J_sub, J_mul, J_neg, J_n, jle, jlt, jeq, jnn, jnat, Int.toNat_natCast, bJ_0, bJ_1, bft, gd_T, nar_J, nar_0, nar_1, if_true, if_false, Option.bind_some, gd_t, h_size h.leL, h_get h.leL hk (by omega), oD_of q0, q1, q2, q3, q4, q5, eD, (h.op o ho).num, h.asOf]); rfl) | rfl)); (focus (first | exact True.intro | (first | exact vp_J (by omega) (by omega) (by omega) | omega)))) | ((with_reducible apply wp_ifJT); (focus (first | ((simp (disch := omega) only [J_lit, J_add, J_sub, J_mul, J_neg, J_n, jle, jlt, jeq, jnn, jnat, Int.toNat_natCast, bJ_0, bJ_1, bft, gd_T, nar_J, nar_0, nar_1, if_true, if_false, Option.bind_some, gd_t, decide_eq_false_iff_not, decide_eq_true_eq, h_size h.leL, h_get h.leL hk (by omega), oD_of q0, q1, q2, q3, q4, q5, eD, (h.op o ho).num, h.asOf]); rfl) | rfl)); (focus (first | exact True.intro | omega))) | ((with_reducible apply wp_ifJF); (focus (first | ((simp (disch := omega) only [J_lit, J_add, J_sub, J_mul, J_neg, J_n, jle, jlt, jeq, jnn, jnat, Int.toNat_natCast, bJ_0, bJ_1, bft, gd_T, nar_J, nar_0, nar_1, if_true, if_false, Option.bind_some, gd_t, decide_eq_false_iff_not, decide_eq_true_eq, h_size h.leL, h_get h.leL hk (by omega), oD_of q0, q1, q2, q3, q4, q5, eD, (h.op o ho).num, h.asOf]); rfl) | rfl)); (focus (first | exact not_false | omega))) | ((with_reducible apply wp_ifJ); (focus (first | ((simp (disch := omega) only [J_lit, J_add, J_sub, J_mul, J_neg, J_n, jle, jlt, jeq, jnn, jnat, Int.toNat_natCast, bJ_0, bJ_1, bft, gd_T, nar_J, nar_0, nar_1, if_true, if_false, Option.bind_some, gd_t, decide_eq_false_iff_not, decide_eq_true_eq, h_size h.leL, h_get h.leL hk (by omega), oD_of q0, q1, q2, q3, q4, q5, eD, (h.op o ho).num, h.asOf]); rfl) | rfl)); all_goals intro _) | (with_reducible apply wp_some) | ((with_reducible apply wp_eli); try dsimp only) | ((with_reducible apply wp_elr); try dsimp only) | ((with_reducible apply wp_bindE); (focus ((simp (disch := omega) only [J_lit, J_add, J_sub, J_mul, J_neg, J_n, jle, jlt, jeq, jnn, jnat, Int.toNat_natCast, bJ_0, bJ_1, bft, gd_T, nar_J, nar_0, nar_1, if_true, if_false, Option.bind_some, gd_t, h_size h.leL, h_get h.leL hk (by omega), oD_of q0, q1, q2, q3, q4, q5, eD, (h.op o ho).num, h.asOf]); rfl)); try dsimp only) | (with_reducible apply wp_bind))); all_goals (try (simp (disch := omega) only [J_lit, J_add, J_sub, J_mul, J_neg, J_n, jle, jlt, jeq, jnn, jnat, Int.toNat_natCast, bJ_0, bJ_1, bft, gd_T, nar_J, nar_0, nar_1, if_true, if_false, Option.bind_some, gd_t, h_size h.leL, h_get h.leL hk (by omega), oD_of q0, q1, q2, q3, q4, q5, eD, (h.op o ho).num, h.asOf])))
      all_goals ((try simp only [LR_l, LR_r, Prod.mk.injEq, and_true, true_and, Sum.inr.injEq, Sum.inl.injEq]); (try simp only [sumN]); (try refine ⟨?_, congrArg J (by omega)⟩); (refine congrArg J ?_); (first | (rw [if_pos (by first | omega | (simp_all; done) | (simp_all; omega))]; first | done | omega) | (rw [if_neg (by first | omega | (simp_all; done) | (simp_all; omega))]; first | done | omega)))
    · dsimp only
      unfold mX1_learnedOf_b6
      ((repeat' (first | ((with_reducible apply wp_let); try dsimp only) | ((with_reducible apply wp_gdJ); (focus (first | ((simp (disch := omega) only [J_lit, J_add, J_sub, J_mul, J_neg, J_n, jle, jlt, jeq, jnn, jnat, Int.toNat_natCast, bJ_0, bJ_1, bft, gd_T, nar_J, nar_0, nar_1, if_true, if_false, Option.bind_some, gd_t, h_size h.leL]); rfl) | rfl)); (focus (first | exact True.intro | (first | exact vp_J (by omega) (by omega) (by omega) | omega)))) | ((with_reducible apply wp_ifJT); (focus (first | ((simp (disch := omega) only [J_lit, J_add, J_sub, J_mul, J_neg, J_n, jle, jlt, jeq, jnn, jnat, Int.toNat_natCast, bJ_0, bJ_1, bft, gd_T, nar_J, nar_0, nar_1, if_true, if_false, Option.bind_some, gd_t, decide_eq_false_iff_not, decide_eq_true_eq, h_size h.leL]); rfl) | rfl)); (focus (first | exact True.intro | omega))) | ((with_reducible apply wp_ifJF); (focus (first | ((simp (disch := omega) only [J_lit, J_add, J_sub, J_mul, J_neg, J_n, jle, jlt, jeq, jnn, jnat, Int.toNat_natCast, bJ_0, bJ_1, bft, gd_T, nar_J, nar_0, nar_1, if_true, if_false, Option.bind_some, gd_t, decide_eq_false_iff_not, decide_eq_true_eq, h_size h.leL]); rfl) | rfl)); (focus (first | exact not_false | omega))) | ((with_reducible apply wp_ifJ); (focus (first | ((simp (disch := omega) only [J_lit, J_add, J_sub, J_mul, J_neg, J_n, jle, jlt, jeq, jnn, jnat, Int.toNat_natCast, bJ_0, bJ_1, bft, gd_T, nar_J, nar_0, nar_1, if_true, if_false, Option.bind_some, gd_t, decide_eq_false_iff_not, decide_eq_true_eq, h_size h.leL]); rfl) | rfl)); all_goals intro _) | (with_reducible apply wp_some) | ((with_reducible apply wp_eli); try dsimp only) | ((with_reducible apply wp_elr); try dsimp only) | ((with_reducible apply wp_bindE); (focus ((simp (disch := omega) only [J_lit, J_add, J_sub, J_mul, J_neg, J_n, jle, jlt, jeq, jnn, jnat, Int.toNat_natCast, bJ_0, bJ_1, bft, gd_T, nar_J, nar_0, nar_1, if_true, if_false, Option.bind_some, gd_t, h_size h.leL]); rfl)); try dsimp only) | (with_reducible apply wp_bind))); all_goals (try (simp (disch := omega) only [J_lit, J_add, J_sub, J_mul, J_neg, J_n, jle, jlt, jeq, jnn, jnat, Int.toNat_natCast, bJ_0, bJ_1, bft, gd_T, nar_J, nar_0, nar_1, if_true, if_false, Option.bind_some, gd_t, h_size h.leL])))
      rfl
  have e2 : sumN T.all (fun d => if (T.ca d).kind ≠ 3 ∧ (T.ca d).op = o ∧ T.cast d r = s ∧ (T.ca d).fin ≤ m then T.long d else 0) = sumN T.all (fun k => if (T.ca (T.ord k)).kind ≠ 3 ∧ (T.ca (T.ord k)).op = o ∧ T.cast (T.ord k) r = s ∧ (T.ca (T.ord k)).fin ≤ m then T.long (T.ord k) else 0) := (hT.sum _).symm
  have k2 : ∀ x : Int, lpF (fun v : Int32 × Int32 => mX1_learnedOf_b93 n FI FR GR AI AR BR AN (J s) (some (Z.o o)) (J r) (J m) v.1 v.2) n (J x, J 0) = some (J (x + sumN T.all (fun d => if (T.ca d).kind ≠ 3 ∧ (T.ca d).op = o ∧ T.cast d r = s ∧ (T.ca d).fin ≤ m then T.long d else 0))) := by
    intro x
    rw [e2]
    refine wp_fold (fun k => (J (x + sumN k (fun k => if (T.ca (T.ord k)).kind ≠ 3 ∧ (T.ca (T.ord k)).op = o ∧ T.cast (T.ord k) r = s ∧ (T.ca (T.ord k)).fin ≤ m then T.long (T.ord k) else 0)), J (k : Int))) _ T.all ?_ ?_ (by omega) (by simp [sumN])
    · intro k hk
      have hc := hT.ord k hk
      have hb := hT.b hc
      have hb4 := hT.cast (T.ord k) r hc hr
      have hb3 := hT.S.nS
      have eop := (h.ca _ hc).op
      have enm := h.oNm' hb.1 ho
      have eeq := h.oEq hb.1 ho
      dsimp only
      unfold mX1_learnedOf_b93
      ((repeat' (first | ((with_reducible apply wp_let); try dsimp only) | ((with_reducible apply wp_gdJ); (focus (first | ((simp (disch := omega) only [J_lit, J_add, J_sub, J_mul, J_neg, J_n, jle, jlt, jeq, jnn, jnat, Int.toNat_natCast, bJ_0, bJ_1, bft, gd_T, nar_J, nar_0, nar_1, if_true, if_false, Option.bind_some, gd_t, h.ordered, h.order, h.cD hc, eop, enm, eeq, (h.ca _ hc).kind, (h.ca _ hc).fin, (h.ca _ hc).num, h.cast _ r hc hr, h_hours h hc]); rfl) | rfl)); (focus (first | exact True.intro | (first | exact vp_J (by omega) (by omega) (by omega) | omega)))) | ((with_reducible apply wp_ifJT); (focus (first | ((simp (disch := omega) only [J_lit, J_add, J_sub, J_mul, J_neg, J_n, jle, jlt, jeq, jnn, jnat, Int.toNat_natCast, bJ_0, bJ_1, bft, gd_T, nar_J, nar_0, nar_1, if_true, if_false, Option.bind_some, gd_t, decide_eq_false_iff_not, decide_eq_true_eq, h.ordered, h.order, h.cD hc, eop, enm, eeq, (h.ca _ hc).kind, (h.ca _ hc).fin, (h.ca _ hc).num, h.cast _ r hc hr, h_hours h hc]); rfl) | rfl)); (focus (first | exact True.intro | omega))) | ((with_reducible apply wp_ifJF); (focus (first | ((simp (disch := omega) only [J_lit, J_add, J_sub, J_mul, J_neg, J_n, jle, jlt, jeq, jnn, jnat, Int.toNat_natCast, bJ_0, bJ_1, bft, gd_T, nar_J, nar_0, nar_1, if_true, if_false, Option.bind_some, gd_t, decide_eq_false_iff_not, decide_eq_true_eq, h.ordered, h.order, h.cD hc, eop, enm, eeq, (h.ca _ hc).kind, (h.ca _ hc).fin, (h.ca _ hc).num, h.cast _ r hc hr, h_hours h hc]); rfl) | rfl)); (focus (first | exact not_false | omega))) | ((with_reducible apply wp_ifJ); (focus (first | ((simp (disch := omega) only [J_lit, J_add, J_sub, J_mul, J_neg, J_n, jle, jlt, jeq, jnn, jnat, Int.toNat_natCast, bJ_0, bJ_1, bft, gd_T, nar_J, nar_0, nar_1, if_true, if_false, Option.bind_some, gd_t, decide_eq_false_iff_not, decide_eq_true_eq, h.ordered, h.order, h.cD hc, eop, enm, eeq, (h.ca _ hc).kind, (h.ca _ hc).fin, (h.ca _ hc).num, h.cast _ r hc hr, h_hours h hc]); rfl) | rfl)); all_goals intro _) | (with_reducible apply wp_some) | ((with_reducible apply wp_eli); try dsimp only) | ((with_reducible apply wp_elr); try dsimp only) | ((with_reducible apply wp_bindE); (focus ((simp (disch := omega) only [J_lit, J_add, J_sub, J_mul, J_neg, J_n, jle, jlt, jeq, jnn, jnat, Int.toNat_natCast, bJ_0, bJ_1, bft, gd_T, nar_J, nar_0, nar_1, if_true, if_false, Option.bind_some, gd_t, h.ordered, h.order, h.cD hc, eop, enm, eeq, (h.ca _ hc).kind, (h.ca _ hc).fin, (h.ca _ hc).num, h.cast _ r hc hr, h_hours h hc]); rfl)); try dsimp only) | (with_reducible apply wp_bind))); all_goals (try (simp (disch := omega) only [J_lit, J_add, J_sub, J_mul, J_neg, J_n, jle, jlt, jeq, jnn, jnat, Int.toNat_natCast, bJ_0, bJ_1, bft, gd_T, nar_J, nar_0, nar_1, if_true, if_false, Option.bind_some, gd_t, h.ordered, h.order, h.cD hc, eop, enm, eeq, (h.ca _ hc).kind, (h.ca _ hc).fin, (h.ca _ hc).num, h.cast _ r hc hr, h_hours h hc])))
      all_goals ((try simp only [LR_l, LR_r, Prod.mk.injEq, and_true, true_and, Sum.inr.injEq, Sum.inl.injEq]); (try simp only [sumN]); (try refine ⟨?_, congrArg J (by omega)⟩); (refine congrArg J ?_); (first | (rw [if_pos (by first | omega | (simp_all; done) | (simp_all; omega))]; first | done | omega) | (rw [if_neg (by first | omega | (simp_all; done) | (simp_all; omega))]; first | done | omega)))
    · dsimp only
      unfold mX1_learnedOf_b93
      ((repeat' (first | ((with_reducible apply wp_let); try dsimp only) | ((with_reducible apply wp_gdJ); (focus (first | ((simp (disch := omega) only [J_lit, J_add, J_sub, J_mul, J_neg, J_n, jle, jlt, jeq, jnn, jnat, Int.toNat_natCast, bJ_0, bJ_1, bft, gd_T, nar_J, nar_0, nar_1, if_true, if_false, Option.bind_some, gd_t, h.ordered]); rfl) | rfl)); (focus (first | exact True.intro | (first | exact vp_J (by omega) (by omega) (by omega) | omega)))) | ((with_reducible apply wp_ifJT); (focus (first | ((simp (disch := omega) only [J_lit, J_add, J_sub, J_mul, J_neg, J_n, jle, jlt, jeq, jnn, jnat, Int.toNat_natCast, bJ_0, bJ_1, bft, gd_T, nar_J, nar_0, nar_1, if_true, if_false, Option.bind_some, gd_t, decide_eq_false_iff_not, decide_eq_true_eq, h.ordered]); rfl) | rfl)); (focus (first | exact True.intro | omega))) | ((with_reducible apply wp_ifJF); (focus (first | ((simp (disch := omega) only [J_lit, J_add, J_sub, J_mul, J_neg, J_n, jle, jlt, jeq, jnn, jnat, Int.toNat_natCast, bJ_0, bJ_1, bft, gd_T, nar_J, nar_0, nar_1, if_true, if_false, Option.bind_some, gd_t, decide_eq_false_iff_not, decide_eq_true_eq, h.ordered]); rfl) | rfl)); (focus (first | exact not_false | omega))) | ((with_reducible apply wp_ifJ); (focus (first | ((simp (disch := omega) only [J_lit, J_add, J_sub, J_mul, J_neg, J_n, jle, jlt, jeq, jnn, jnat, Int.toNat_natCast, bJ_0, bJ_1, bft, gd_T, nar_J, nar_0, nar_1, if_true, if_false, Option.bind_some, gd_t, decide_eq_false_iff_not, decide_eq_true_eq, h.ordered]); rfl) | rfl)); all_goals intro _) | (with_reducible apply wp_some) | ((with_reducible apply wp_eli); try dsimp only) | ((with_reducible apply wp_elr); try dsimp only) | ((with_reducible apply wp_bindE); (focus ((simp (disch := omega) only [J_lit, J_add, J_sub, J_mul, J_neg, J_n, jle, jlt, jeq, jnn, jnat, Int.toNat_natCast, bJ_0, bJ_1, bft, gd_T, nar_J, nar_0, nar_1, if_true, if_false, Option.bind_some, gd_t, h.ordered]); rfl)); try dsimp only) | (with_reducible apply wp_bind))); all_goals (try (simp (disch := omega) only [J_lit, J_add, J_sub, J_mul, J_neg, J_n, jle, jlt, jeq, jnn, jnat, Int.toNat_natCast, bJ_0, bJ_1, bft, gd_T, nar_J, nar_0, nar_1, if_true, if_false, Option.bind_some, gd_t, h.ordered])))
      rfl
  apply wp_eq
  unfold mX1_learnedOf
  ((repeat' (first | ((with_reducible apply wp_let); try dsimp only) | ((with_reducible apply wp_gdJ); (focus (first | ((simp (disch := omega) only [J_lit, J_add, J_sub, J_mul, J_neg, J_n, jle, jlt, jeq, jnn, jnat, Int.toNat_natCast, bJ_0, bJ_1, bft, gd_T, nar_J, nar_0, nar_1, if_true, if_false, Option.bind_some, gd_t, k1, k2]); rfl) | rfl)); (focus (first | exact True.intro | (first | exact vp_J (by omega) (by omega) (by omega) | omega)))) | ((with_reducible apply wp_ifJT); (focus (first | ((simp (disch := omega) only [J_lit, J_add, J_sub, J_mul, J_neg, J_n, jle, jlt, jeq, jnn, jnat, Int.toNat_natCast, bJ_0, bJ_1, bft, gd_T, nar_J, nar_0, nar_1, if_true, if_false, Option.bind_some, gd_t, decide_eq_false_iff_not, decide_eq_true_eq, k1, k2]); rfl) | rfl)); (focus (first | exact True.intro | omega))) | ((with_reducible apply wp_ifJF); (focus (first | ((simp (disch := omega) only [J_lit, J_add, J_sub, J_mul, J_neg, J_n, jle, jlt, jeq, jnn, jnat, Int.toNat_natCast, bJ_0, bJ_1, bft, gd_T, nar_J, nar_0, nar_1, if_true, if_false, Option.bind_some, gd_t, decide_eq_false_iff_not, decide_eq_true_eq, k1, k2]); rfl) | rfl)); (focus (first | exact not_false | omega))) | ((with_reducible apply wp_ifJ); (focus (first | ((simp (disch := omega) only [J_lit, J_add, J_sub, J_mul, J_neg, J_n, jle, jlt, jeq, jnn, jnat, Int.toNat_natCast, bJ_0, bJ_1, bft, gd_T, nar_J, nar_0, nar_1, if_true, if_false, Option.bind_some, gd_t, decide_eq_false_iff_not, decide_eq_true_eq, k1, k2]); rfl) | rfl)); all_goals intro _) | (with_reducible apply wp_some) | ((with_reducible apply wp_eli); try dsimp only) | ((with_reducible apply wp_elr); try dsimp only) | ((with_reducible apply wp_bindE); (focus ((simp (disch := omega) only [J_lit, J_add, J_sub, J_mul, J_neg, J_n, jle, jlt, jeq, jnn, jnat, Int.toNat_natCast, bJ_0, bJ_1, bft, gd_T, nar_J, nar_0, nar_1, if_true, if_false, Option.bind_some, gd_t, k1, k2]); rfl)); try dsimp only) | (with_reducible apply wp_bind))); all_goals (try (simp (disch := omega) only [J_lit, J_add, J_sub, J_mul, J_neg, J_n, jle, jlt, jeq, jnn, jnat, Int.toNat_natCast, bJ_0, bJ_1, bft, gd_T, nar_J, nar_0, nar_1, if_true, if_false, Option.bind_some, gd_t, k1, k2])))
  rfl
theorem h_isTaken (h : HTb T Z FI FR GR AI BR AN) (hT : PTbOk T) (hn : 10000 ≤ n) {k : Nat} (hk : k < T.all) : mX1_isTaken n FI FR AR BR AN (J k) = some (bJ (T.taken (T.ord k))) := by
  have h66 := hT.all
  have hc := hT.ord k hk
  have hbc := hT.b hc
  have eo := h.order k hk
  have hpo := hT.po k hk
  generalize hC : T.ord k = c at hc hbc eo hpo
  have isOnE : ∀ i, i < k → (T.isOn (T.ord i) c = true ↔ (T.ca c).beg < (T.ca (T.ord i)).fin) := fun i hi => by
    unfold PTb.isOn; rw [hT.po i (by omega), hpo, decide_eq_true hi, Bool.true_and, decide_eq_true_eq]
  have eM : T.marks c = sumN k (fun i => if (T.ca (T.ord i)).kind = 1 ∧ T.isOn (T.ord i) c = true then 1 else 0) := by
    rw [sum_pos hT (f := fun d => if (T.ca d).kind = 1 ∧ T.isOn d c = true then 1 else 0) (by omega : k ≤ T.all)]
    exact sumN_congr fun d hd => by
      by_cases q : T.pos d < k
      · rw [if_pos q]
      · rw [if_neg q, if_neg]; rintro ⟨_, q2⟩; unfold PTb.isOn at q2; rw [hpo, decide_eq_false q] at q2; simp at q2
  have eO : T.others c = sumN k (fun i => if (T.ca (T.ord i)).kind ≠ 0 ∧ (T.ca (T.ord i)).kind ≠ 1 ∧ T.isOn (T.ord i) c = true then 1 else 0) := by
    rw [sum_pos hT (f := fun d => if (T.ca d).kind ≠ 0 ∧ (T.ca d).kind ≠ 1 ∧ T.isOn d c = true then 1 else 0) (by omega : k ≤ T.all)]
    exact sumN_congr fun d hd => by
      by_cases q : T.pos d < k
      · rw [if_pos q]
      · rw [if_neg q, if_neg]; rintro ⟨_, _, q2⟩; unfold PTb.isOn at q2; rw [hpo, decide_eq_false q] at q2; simp at q2
  have one : ∀ {P : Nat → Prop} [DecidablePred P] {i : Nat}, i < k → P i → 1 ≤ sumN k (fun i => if P i then 1 else 0) := by
    intro P _ i hi hp
    have a1 : ∀ m, i < m → 1 ≤ sumN m (fun i => if P i then 1 else 0) := by
      intro m hm
      induction m with
      | zero => omega
      | succ m ih =>
        simp only [sumN]
        by_cases q : i = m
        · subst q; rw [if_pos hp]
          have : 0 ≤ sumN i (fun i => if P i then 1 else 0) := sumN01.1
          omega
        · have := ih (by omega)
          split <;> omega
    exact a1 k hi
  have key : wp (lpF (fun v : Int32 × Int32 => mX1_isTaken_b12 n FI FR AR BR AN (J k) (some (Z.c c)) v.1 v.2) n (J 0, J 0)) (fun r => (r = .inr () ∧ T.taken c = true) ∨ ∃ m : Int, r = .inl (J m) ∧ 0 ≤ m ∧ m ≤ 66 ∧ (T.taken c = decide (1 < m))) := by
    refine wp_for k (fun i a => a = (J (if (T.ca c).kind = 0 then 0 else sumN i (fun i => if (T.ca (T.ord i)).kind = 1 ∧ T.isOn (T.ord i) c = true then 1 else 0)), J (i : Int)) ∧ ((T.ca c).kind = 0 ∨ ∀ j, j < i → (T.ca (T.ord j)).kind ≠ 0 → T.isOn (T.ord j) c = true → (T.ca (T.ord j)).kind = 1 ∧ (T.ca c).kind = 1)) ?_ (k0 := 0) ⟨by simp [sumN], .inr fun j hj => by omega⟩ (by omega) (by omega)
    rintro i a hi ⟨rfl, hinv⟩
    have mb : 0 ≤ sumN i (fun i => if (T.ca (T.ord i)).kind = 1 ∧ T.isOn (T.ord i) c = true then 1 else 0) ∧ sumN i (fun i => if (T.ca (T.ord i)).kind = 1 ∧ T.isOn (T.ord i) c = true then 1 else 0) ≤ i := sumN01
    dsimp only
    by_cases e : i = k
    · subst e
      unfold mX1_isTaken_b12
      ((repeat' (first | ((with_reducible apply wp_let); try dsimp only) | ((with_reducible apply wp_gdJ); (focus (first | ((simp (disch := omega) only [J_lit, J_add, J_sub, J_mul, J_neg, J_n, jle, jlt, jeq, jnn, jnat, Int.toNat_natCast, bJ_0, bJ_1, bft, gd_T, nar_J, nar_0, nar_1, if_true, if_false, Option.bind_some, gd_t]); rfl) | rfl)); (focus (first | exact True.intro | (first | exact vp_J (by omega) (by omega) (by omega) | omega)))) | ((with_reducible apply wp_ifJT); (focus (first | ((simp (disch := omega) only [J_lit, J_add, J_sub, J_mul, J_neg, J_n, jle, jlt, jeq, jnn, jnat, Int.toNat_natCast, bJ_0, bJ_1, bft, gd_T, nar_J, nar_0, nar_1, if_true, if_false, Option.bind_some, gd_t, decide_eq_false_iff_not, decide_eq_true_eq]); rfl) | rfl)); (focus (first | exact True.intro | omega))) | ((with_reducible apply wp_ifJF); (focus (first | ((simp (disch := omega) only [J_lit, J_add, J_sub, J_mul, J_neg, J_n, jle, jlt, jeq, jnn, jnat, Int.toNat_natCast, bJ_0, bJ_1, bft, gd_T, nar_J, nar_0, nar_1, if_true, if_false, Option.bind_some, gd_t, decide_eq_false_iff_not, decide_eq_true_eq]); rfl) | rfl)); (focus (first | exact not_false | omega))) | ((with_reducible apply wp_ifJ); (focus (first | ((simp (disch := omega) only [J_lit, J_add, J_sub, J_mul, J_neg, J_n, jle, jlt, jeq, jnn, jnat, Int.toNat_natCast, bJ_0, bJ_1, bft, gd_T, nar_J, nar_0, nar_1, if_true, if_false, Option.bind_some, gd_t, decide_eq_false_iff_not, decide_eq_true_eq]); rfl) | rfl)); all_goals intro _) | (with_reducible apply wp_some) | ((with_reducible apply wp_eli); try dsimp only) | ((with_reducible apply wp_elr); try dsimp only) | ((with_reducible apply wp_bindE); (focus ((simp (disch := omega) only [J_lit, J_add, J_sub, J_mul, J_neg, J_n, jle, jlt, jeq, jnn, jnat, Int.toNat_natCast, bJ_0, bJ_1, bft, gd_T, nar_J, nar_0, nar_1, if_true, if_false, Option.bind_some, gd_t]); rfl)); try dsimp only) | (with_reducible apply wp_bind))); all_goals (try (simp (disch := omega) only [J_lit, J_add, J_sub, J_mul, J_neg, J_n, jle, jlt, jeq, jnn, jnat, Int.toNat_natCast, bJ_0, bJ_1, bft, gd_T, nar_J, nar_0, nar_1, if_true, if_false, Option.bind_some, gd_t])))
      refine .inr ⟨_, rfl, by split <;> omega, by split <;> omega, ?_⟩
      unfold PTb.taken
      rw [decide_eq_decide]
      by_cases q0 : (T.ca c).kind = 0
      · simp [q0]
      · have hinv' := hinv.resolve_left q0
        have o0 : T.others c = 0 := by
          rw [eO]
          have : sumN i (fun j => if (T.ca (T.ord j)).kind ≠ 0 ∧ (T.ca (T.ord j)).kind ≠ 1 ∧ T.isOn (T.ord j) c = true then 1 else 0) = sumN i (fun _ => 0) := sumN_congr fun j hj => if_neg (by rintro ⟨a1, a2, a3⟩; exact a2 (hinv' j hj a1 a3).1)
          rw [this]
          clear this
          induction i with
          | zero => rfl
          | succ i _ => exact Int.le_antisymm (by have := sumN_le (n := i + 1) (f := fun _ => (0 : Int)) (B := 0) (fun _ _ => Int.le_refl _); omega) (sumN_nn fun _ _ => Int.le_refl _)
        rw [if_neg q0, o0, eM]
        by_cases q1 : (T.ca c).kind = 1
        · rw [if_pos q1]; simp [q0]
        · have m0 : sumN i (fun j => if (T.ca (T.ord j)).kind = 1 ∧ T.isOn (T.ord j) c = true then 1 else 0) = 0 := by
            refine Int.le_antisymm ?_ mb.1
            have := sumN_le (n := i) (f := fun j => if (T.ca (T.ord j)).kind = 1 ∧ T.isOn (T.ord j) c = true then (1 : Int) else 0) (B := 0) (fun j hj => by
              rw [if_neg]; · exact Int.le_refl _
              rintro ⟨a1, a2⟩; exact q1 (hinv' j hj (by omega) a2).2)
            omega
          rw [if_neg q1, m0]; simp
    · have hilt : i < k := by omega
      have ho := hT.ord i (by omega)
      have hb := hT.b ho
      have e3 := h_isOn h hT ho (m := (T.ca c).beg) (by omega) (by omega)
      have eon := on_pos hT hk hilt
      rw [hC] at eon
      rw [eon] at e3
      have e4 := h_onStage h hT ho
      have e5 := h_onStage h hT hc
      have tk1 : (T.ca (T.ord i)).kind ≠ 0 → (T.ca c).kind ≠ 0 → T.isOn (T.ord i) c = true → ¬ ((T.ca (T.ord i)).kind = 1 ∧ (T.ca c).kind = 1) → T.taken c = true := by
        intro a1 a2 a3 a4
        unfold PTb.taken
        rw [decide_eq_true_eq]
        refine ⟨a2, ?_⟩
        by_cases a5 : (T.ca (T.ord i)).kind = 1
        · right
          rw [if_neg (by omega), eM]
          have := one (P := fun j => (T.ca (T.ord j)).kind = 1 ∧ T.isOn (T.ord j) c = true) hilt ⟨a5, a3⟩
          omega
        · left
          rw [eO]
          have := one (P := fun j => (T.ca (T.ord j)).kind ≠ 0 ∧ (T.ca (T.ord j)).kind ≠ 1 ∧ T.isOn (T.ord j) c = true) hilt ⟨a1, a5, a3⟩
          omega
      have mb2 : ∀ v : Int, v = (if (T.ca c).kind = 0 then 0 else sumN i (fun i => if (T.ca (T.ord i)).kind = 1 ∧ T.isOn (T.ord i) c = true then 1 else 0)) → 0 ≤ v ∧ v ≤ 66 := fun v hv => by rw [hv]; split <;> omega
      generalize hV : (if (T.ca c).kind = 0 then 0 else sumN i (fun i => if (T.ca (T.ord i)).kind = 1 ∧ T.isOn (T.ord i) c = true then 1 else 0)) = V at mb2
      have mb3 := mb2 V rfl
      have noG : (T.ca c).kind = 0 ∨ (T.ca (T.ord i)).kind = 0 ∨ T.isOn (T.ord i) c = false → i < k ∧ (J V, J ((i : Int) + 1)) = (J (if (T.ca c).kind = 0 then 0 else sumN (i + 1) (fun i => if (T.ca (T.ord i)).kind = 1 ∧ T.isOn (T.ord i) c = true then 1 else 0)), J ((i + 1 : Nat) : Int)) ∧ ((T.ca c).kind = 0 ∨ ∀ j, j < i + 1 → (T.ca (T.ord j)).kind ≠ 0 → T.isOn (T.ord j) c = true → (T.ca (T.ord j)).kind = 1 ∧ (T.ca c).kind = 1) := by
        intro hz
        refine ⟨hilt, ?_, ?_⟩
        · simp only [Prod.mk.injEq]
          refine ⟨congrArg J ?_, rfl⟩
          rw [← hV]
          by_cases q0 : (T.ca c).kind = 0
          · rw [if_pos q0, if_pos q0]
          · rw [if_neg q0, if_neg q0]; simp only [sumN]; rw [if_neg (by rintro ⟨a1, a2⟩; rcases hz with z | z | z; exact q0 z; omega; rw [z] at a2; cases a2)]; omega
        · rcases hinv with z | z
          · exact .inl z
          · by_cases q0 : (T.ca c).kind = 0
            · exact .inl q0
            · refine .inr fun j hj a1 a2 => ?_
              by_cases qj : j = i
              · subst qj; rcases hz with z2 | z2 | z2; exact absurd z2 q0; exact absurd z2 a1; rw [z2] at a2; cases a2
              · exact z j (by omega) a1 a2
      unfold mX1_isTaken_b12
      ((repeat' (first | ((with_reducible apply wp_let); try dsimp only) | ((with_reducible apply wp_gdJ); (focus (first | ((simp (disch := omega) only [J_lit, J_add, J_sub, J_mul, J_neg, J_n, jle, jlt, jeq, jnn, jnat, Int.toNat_natCast, bJ_0, bJ_1, bft, gd_T, nar_J, nar_0, nar_1, if_true, if_false, Option.bind_some, gd_t, h.order, h.cD ho, h.cD hc, e4, e5, (h.ca _ hc).beg, e3, (h.ca _ ho).kind, (h.ca _ hc).kind]); rfl) | rfl)); (focus (first | exact True.intro | (first | exact vp_J (by omega) (by omega) (by omega) | omega)))) | ((with_reducible apply wp_ifJT); (focus (first | ((simp (disch := omega) only [J_lit, J_add, J_sub, J_mul, J_neg, J_n, jle, jlt, jeq, jnn, jnat, Int.toNat_natCast, bJ_0, bJ_1, bft, gd_T, nar_J, nar_0, nar_1, if_true, if_false, Option.bind_some, gd_t, decide_eq_false_iff_not, decide_eq_true_eq, h.order, h.cD ho, h.cD hc, e4, e5, (h.ca _ hc).beg, e3, (h.ca _ ho).kind, (h.ca _ hc).kind]); rfl) | rfl)); (focus (first | exact True.intro | omega))) | ((with_reducible apply wp_ifJF); (focus (first | ((simp (disch := omega) only [J_lit, J_add, J_sub, J_mul, J_neg, J_n, jle, jlt, jeq, jnn, jnat, Int.toNat_natCast, bJ_0, bJ_1, bft, gd_T, nar_J, nar_0, nar_1, if_true, if_false, Option.bind_some, gd_t, decide_eq_false_iff_not, decide_eq_true_eq, h.order, h.cD ho, h.cD hc, e4, e5, (h.ca _ hc).beg, e3, (h.ca _ ho).kind, (h.ca _ hc).kind]); rfl) | rfl)); (focus (first | exact not_false | omega))) | ((with_reducible apply wp_ifJ); (focus (first | ((simp (disch := omega) only [J_lit, J_add, J_sub, J_mul, J_neg, J_n, jle, jlt, jeq, jnn, jnat, Int.toNat_natCast, bJ_0, bJ_1, bft, gd_T, nar_J, nar_0, nar_1, if_true, if_false, Option.bind_some, gd_t, decide_eq_false_iff_not, decide_eq_true_eq, h.order, h.cD ho, h.cD hc, e4, e5, (h.ca _ hc).beg, e3, (h.ca _ ho).kind, (h.ca _ hc).kind]); rfl) | rfl)); all_goals intro _) | (with_reducible apply wp_some) | ((with_reducible apply wp_eli); try dsimp only) | ((with_reducible apply wp_elr); try dsimp only) | ((with_reducible apply wp_bindE); (focus ((simp (disch := omega) only [J_lit, J_add, J_sub, J_mul, J_neg, J_n, jle, jlt, jeq, jnn, jnat, Int.toNat_natCast, bJ_0, bJ_1, bft, gd_T, nar_J, nar_0, nar_1, if_true, if_false, Option.bind_some, gd_t, h.order, h.cD ho, h.cD hc, e4, e5, (h.ca _ hc).beg, e3, (h.ca _ ho).kind, (h.ca _ hc).kind]); rfl)); try dsimp only) | (with_reducible apply wp_bind))); all_goals (try (simp (disch := omega) only [J_lit, J_add, J_sub, J_mul, J_neg, J_n, jle, jlt, jeq, jnn, jnat, Int.toNat_natCast, bJ_0, bJ_1, bft, gd_T, nar_J, nar_0, nar_1, if_true, if_false, Option.bind_some, gd_t, h.order, h.cD ho, h.cD hc, e4, e5, (h.ca _ hc).beg, e3, (h.ca _ ho).kind, (h.ca _ hc).kind])))
      · exact noG (by omega)
      · exact noG (by omega)
      · rename_i q; exact noG (.inr (.inr q))
      · rename_i q1 q2 q3 q4 q5
        refine ⟨hilt, ?_, ?_⟩
        · simp only [Prod.mk.injEq]
          refine ⟨congrArg J ?_, rfl⟩
          rw [← hV, if_neg (by omega), if_neg (by omega)]; simp only [sumN]; rw [if_pos ⟨by omega, by simpa using q3⟩]
        · rcases hinv with z | z
          · exact .inl z
          · refine .inr fun j hj a1 a2 => ?_
            by_cases qj : j = i
            · subst qj; exact ⟨by omega, by omega⟩
            · exact z j (by omega) a1 a2
      · rename_i q1 q2 q3 q4 q5
        exact .inl ⟨rfl, tk1 (by omega) (by omega) (by simpa using q3) (by omega)⟩
      · rename_i q1 q2 q3 q4
        exact .inl ⟨rfl, tk1 (by omega) (by omega) (by simpa using q3) (by omega)⟩
  obtain ⟨r, e, hr⟩ := key
  apply wp_eq
  unfold mX1_isTaken
  rcases hr with ⟨rfl, ht⟩ | ⟨m, rfl, m0, m1, ht⟩
  · ((repeat' (first | ((with_reducible apply wp_let); try dsimp only) | ((with_reducible apply wp_gdJ); (focus (first | ((simp (disch := omega) only [J_lit, J_add, J_sub, J_mul, J_neg, J_n, jle, jlt, jeq, jnn, jnat, Int.toNat_natCast, bJ_0, bJ_1, bft, gd_T, nar_J, nar_0, nar_1, if_true, if_false, Option.bind_some, gd_t, eo, e]); rfl) | rfl)); (focus (first | exact True.intro | (first | exact vp_J (by omega) (by omega) (by omega) | omega)))) | ((with_reducible apply wp_ifJT); (focus (first | ((simp (disch := omega) only [J_lit, J_add, J_sub, J_mul, J_neg, J_n, jle, jlt, jeq, jnn, jnat, Int.toNat_natCast, bJ_0, bJ_1, bft, gd_T, nar_J, nar_0, nar_1, if_true, if_false, Option.bind_some, gd_t, decide_eq_false_iff_not, decide_eq_true_eq, eo, e]); rfl) | rfl)); (focus (first | exact True.intro | omega))) | ((with_reducible apply wp_ifJF); (focus (first | ((simp (disch := omega) only [J_lit, J_add, J_sub, J_mul, J_neg, J_n, jle, jlt, jeq, jnn, jnat, Int.toNat_natCast, bJ_0, bJ_1, bft, gd_T, nar_J, nar_0, nar_1, if_true, if_false, Option.bind_some, gd_t, decide_eq_false_iff_not, decide_eq_true_eq, eo, e]); rfl) | rfl)); (focus (first | exact not_false | omega))) | ((with_reducible apply wp_ifJ); (focus (first | ((simp (disch := omega) only [J_lit, J_add, J_sub, J_mul, J_neg, J_n, jle, jlt, jeq, jnn, jnat, Int.toNat_natCast, bJ_0, bJ_1, bft, gd_T, nar_J, nar_0, nar_1, if_true, if_false, Option.bind_some, gd_t, decide_eq_false_iff_not, decide_eq_true_eq, eo, e]); rfl) | rfl)); all_goals intro _) | (with_reducible apply wp_some) | ((with_reducible apply wp_eli); try dsimp only) | ((with_reducible apply wp_elr); try dsimp only) | ((with_reducible apply wp_bindE); (focus ((simp (disch := omega) only [J_lit, J_add, J_sub, J_mul, J_neg, J_n, jle, jlt, jeq, jnn, jnat, Int.toNat_natCast, bJ_0, bJ_1, bft, gd_T, nar_J, nar_0, nar_1, if_true, if_false, Option.bind_some, gd_t, eo, e]); rfl)); try dsimp only) | (with_reducible apply wp_bind))); all_goals (try (simp (disch := omega) only [J_lit, J_add, J_sub, J_mul, J_neg, J_n, jle, jlt, jeq, jnn, jnat, Int.toNat_natCast, bJ_0, bJ_1, bft, gd_T, nar_J, nar_0, nar_1, if_true, if_false, Option.bind_some, gd_t, eo, e])))
    rw [ht]; rfl
  · ((repeat' (first | ((with_reducible apply wp_let); try dsimp only) | ((with_reducible apply wp_gdJ); (focus (first | ((simp (disch := omega) only [J_lit, J_add, J_sub, J_mul, J_neg, J_n, jle, jlt, jeq, jnn, jnat, Int.toNat_natCast, bJ_0, bJ_1, bft, gd_T, nar_J, nar_0, nar_1, if_true, if_false, Option.bind_some, gd_t, eo, e]); rfl) | rfl)); (focus (first | exact True.intro | (first | exact vp_J (by omega) (by omega) (by omega) | omega)))) | ((with_reducible apply wp_ifJT); (focus (first | ((simp (disch := omega) only [J_lit, J_add, J_sub, J_mul, J_neg, J_n, jle, jlt, jeq, jnn, jnat, Int.toNat_natCast, bJ_0, bJ_1, bft, gd_T, nar_J, nar_0, nar_1, if_true, if_false, Option.bind_some, gd_t, decide_eq_false_iff_not, decide_eq_true_eq, eo, e]); rfl) | rfl)); (focus (first | exact True.intro | omega))) | ((with_reducible apply wp_ifJF); (focus (first | ((simp (disch := omega) only [J_lit, J_add, J_sub, J_mul, J_neg, J_n, jle, jlt, jeq, jnn, jnat, Int.toNat_natCast, bJ_0, bJ_1, bft, gd_T, nar_J, nar_0, nar_1, if_true, if_false, Option.bind_some, gd_t, decide_eq_false_iff_not, decide_eq_true_eq, eo, e]); rfl) | rfl)); (focus (first | exact not_false | omega))) | ((with_reducible apply wp_ifJ); (focus (first | ((simp (disch := omega) only [J_lit, J_add, J_sub, J_mul, J_neg, J_n, jle, jlt, jeq, jnn, jnat, Int.toNat_natCast, bJ_0, bJ_1, bft, gd_T, nar_J, nar_0, nar_1, if_true, if_false, Option.bind_some, gd_t, decide_eq_false_iff_not, decide_eq_true_eq, eo, e]); rfl) | rfl)); all_goals intro _) | (with_reducible apply wp_some) | ((with_reducible apply wp_eli); try dsimp only) | ((with_reducible apply wp_elr); try dsimp only) | ((with_reducible apply wp_bindE); (focus ((simp (disch := omega) only [J_lit, J_add, J_sub, J_mul, J_neg, J_n, jle, jlt, jeq, jnn, jnat, Int.toNat_natCast, bJ_0, bJ_1, bft, gd_T, nar_J, nar_0, nar_1, if_true, if_false, Option.bind_some, gd_t, eo, e]); rfl)); try dsimp only) | (with_reducible apply wp_bind))); all_goals (try (simp (disch := omega) only [J_lit, J_add, J_sub, J_mul, J_neg, J_n, jle, jlt, jeq, jnn, jnat, Int.toNat_natCast, bJ_0, bJ_1, bft, gd_T, nar_J, nar_0, nar_1, if_true, if_false, Option.bind_some, gd_t, eo, e])))
    · rw [ht]; exact bJ_e0 (by rw [decide_eq_false_iff_not]; omega)
    · rw [ht]; exact bJ_e1 (by rw [decide_eq_true_eq]; omega)
end
end
