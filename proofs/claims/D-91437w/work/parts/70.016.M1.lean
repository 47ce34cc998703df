noncomputable section
set_option linter.unusedVariables false
set_option linter.unusedSimpArgs false
/-! PLAIN 4: what the twin's questions answer -/
section
variable {T : PTb} {FI AI : OhI} {n : Nat} {FR : OhQ} {AN : OhN}
theorem q4_isCover (h : MTb T FI AI) (hT : PTbOk T) (hn : 10000 ≤ n) {s : Int} (hs : -1 ≤ s) (hs2 : s < 20) {c : Nat} (hc : c < T.all) :
    mX4_isCover n FR AI AN (J s) (J c) = some (bJ (T.covers s c)) := by
  have h66 := hT.all
  have hb := hT.b hc
  unfold mX4_isCover
  have key : lpF (fun v => mX4_isCover_b2 n FR AI AN (J s) (J c) v) n (J 0) = some (if T.covers s c then .inr () else .inl ()) := by
    refine wp_any _ _ ?_ ?_ (by omega : T.nr c < n)
    · intro k hk
      have hb2 := hT.cover c k hc (by omega)
      have hb3 := hT.S.nS
      unfold mX4_isCover_b2
      ((try (simp (disch := omega) only [J_lit, J_add, J_sub, J_mul, J_neg, J_n, jle, jlt, jeq, jnn, jnat, Int.toNat_natCast, bJ_0, bJ_1, bft, gd_T, nar_J, nar_0, nar_1, if_true, if_false, Option.bind_some, gd_t, h.co, h.nrT hT, h.cover])); repeat' ((first | ((with_reducible apply wp_gd); (focus (first | exact vp_J (by omega) (by omega) (by omega) | omega))) | (with_reducible apply wp_let) | (with_reducible apply wp_some) | ((with_reducible apply wp_ifT); (focus omega)) | ((with_reducible apply wp_ifF); (focus omega)) | ((with_reducible apply wp_if) <;> intro _) | (with_reducible apply wp_bind)) <;> try (simp (disch := omega) only [J_lit, J_add, J_sub, J_mul, J_neg, J_n, jle, jlt, jeq, jnn, jnat, Int.toNat_natCast, bJ_0, bJ_1, bft, gd_T, nar_J, nar_0, nar_1, if_true, if_false, Option.bind_some, gd_t, h.co, h.nrT hT, h.cover])))
      all_goals ((try simp only [LR_l, LR_r, Prod.mk.injEq, Sum.inl.injEq, Sum.inr.injEq, reduceCtorEq, and_true, true_and, and_false, false_and, or_false, false_or, decide_eq_true_eq, decide_eq_false_iff_not, beq_iff_eq, beq_eq_false_iff_ne, Bool.and_eq_true, Bool.and_eq_false_iff, Bool.or_eq_true, Bool.not_eq_true', Bool.not_eq_false', ne_eq, bJ_0, bJ_t, bJ_f]) <;> (first | omega | (simp_all; done) | (simp_all; omega) | (simp_all [bJ]; done) | (refine ⟨?_, ?_⟩ <;> (first | omega | (simp_all; done) | (simp_all; omega)))))
    · unfold mX4_isCover_b2
      ((try (simp (disch := omega) only [J_lit, J_add, J_sub, J_mul, J_neg, J_n, jle, jlt, jeq, jnn, jnat, Int.toNat_natCast, bJ_0, bJ_1, bft, gd_T, nar_J, nar_0, nar_1, if_true, if_false, Option.bind_some, gd_t, h.co, h.nrT hT, h.cover])); repeat' ((first | ((with_reducible apply wp_gd); (focus (first | exact vp_J (by omega) (by omega) (by omega) | omega))) | (with_reducible apply wp_let) | (with_reducible apply wp_some) | ((with_reducible apply wp_ifT); (focus omega)) | ((with_reducible apply wp_ifF); (focus omega)) | ((with_reducible apply wp_if) <;> intro _) | (with_reducible apply wp_bind)) <;> try (simp (disch := omega) only [J_lit, J_add, J_sub, J_mul, J_neg, J_n, jle, jlt, jeq, jnn, jnat, Int.toNat_natCast, bJ_0, bJ_1, bft, gd_T, nar_J, nar_0, nar_1, if_true, if_false, Option.bind_some, gd_t, h.co, h.nrT hT, h.cover])))
      all_goals ((try simp only [LR_l, LR_r, Prod.mk.injEq, Sum.inl.injEq, Sum.inr.injEq, reduceCtorEq, and_true, true_and, and_false, false_and, or_false, false_or, decide_eq_true_eq, decide_eq_false_iff_not, beq_iff_eq, beq_eq_false_iff_ne, Bool.and_eq_true, Bool.and_eq_false_iff, Bool.or_eq_true, Bool.not_eq_true', Bool.not_eq_false', ne_eq, bJ_0, bJ_t, bJ_f]) <;> (first | omega | (simp_all; done) | (simp_all; omega) | (simp_all [bJ]; done) | (refine ⟨?_, ?_⟩ <;> (first | omega | (simp_all; done) | (simp_all; omega)))))
  (simp (disch := omega) only [J_lit, J_add, J_sub, J_mul, J_neg, J_n, jle, jlt, jeq, jnn, jnat, Int.toNat_natCast, bJ_0, bJ_1, bft, gd_T, nar_J, nar_0, nar_1, if_true, if_false, Option.bind_some, gd_t, key])
  cases T.covers s c <;> rfl
theorem q4_isIn2 (h : MTb T FI AI) (hT : PTbOk T) {s : Nat} (hs : s < 20) {c : Nat} (hc : c < T.all) :
    mX4_isIn_2 FR AI AN (J s) (J c) = some (bJ (T.isCast s c)) := by
  have h66 := hT.all
  apply wp_eq
  unfold mX4_isIn_2
  ((try (simp (disch := omega) only [J_lit, J_add, J_sub, J_mul, J_neg, J_n, jle, jlt, jeq, jnn, jnat, Int.toNat_natCast, bJ_0, bJ_1, bft, gd_T, nar_J, nar_0, nar_1, if_true, if_false, Option.bind_some, gd_t, h.roster c s hc hs])); repeat' ((first | ((with_reducible apply wp_gd); (focus (first | exact vp_J (by omega) (by omega) (by omega) | omega))) | (with_reducible apply wp_let) | (with_reducible apply wp_some) | ((with_reducible apply wp_ifT); (focus omega)) | ((with_reducible apply wp_ifF); (focus omega)) | ((with_reducible apply wp_if) <;> intro _) | (with_reducible apply wp_bind)) <;> try (simp (disch := omega) only [J_lit, J_add, J_sub, J_mul, J_neg, J_n, jle, jlt, jeq, jnn, jnat, Int.toNat_natCast, bJ_0, bJ_1, bft, gd_T, nar_J, nar_0, nar_1, if_true, if_false, Option.bind_some, gd_t, h.roster c s hc hs])))
  all_goals ((try simp only [LR_l, LR_r, Prod.mk.injEq, Sum.inl.injEq, Sum.inr.injEq, reduceCtorEq, and_true, true_and, and_false, false_and, or_false, false_or, decide_eq_true_eq, decide_eq_false_iff_not, beq_iff_eq, beq_eq_false_iff_ne, Bool.and_eq_true, Bool.and_eq_false_iff, Bool.or_eq_true, Bool.not_eq_true', Bool.not_eq_false', ne_eq, bJ_0, bJ_t, bJ_f]) <;> (first | omega | (simp_all; done) | (simp_all; omega) | (simp_all [bJ]; done) | (refine ⟨?_, ?_⟩ <;> (first | omega | (simp_all; done) | (simp_all; omega)))))
theorem q4_longOf (h : MTb T FI AI) (hT : PTbOk T) {c : Nat} (hc : c < T.all) : mX4_longOf FR AI AN (J c) = some (J (T.long c)) := by
  have h66 := hT.all
  apply wp_eq
  unfold mX4_longOf
  ((try (simp (disch := omega) only [J_lit, J_add, J_sub, J_mul, J_neg, J_n, jle, jlt, jeq, jnn, jnat, Int.toNat_natCast, bJ_0, bJ_1, bft, gd_T, nar_J, nar_0, nar_1, if_true, if_false, Option.bind_some, gd_t, h.cb, h.cf])); repeat' ((first | ((with_reducible apply wp_gd); (focus (first | exact vp_J (by omega) (by omega) (by omega) | omega))) | (with_reducible apply wp_let) | (with_reducible apply wp_some) | ((with_reducible apply wp_ifT); (focus omega)) | ((with_reducible apply wp_ifF); (focus omega)) | ((with_reducible apply wp_if) <;> intro _) | (with_reducible apply wp_bind)) <;> try (simp (disch := omega) only [J_lit, J_add, J_sub, J_mul, J_neg, J_n, jle, jlt, jeq, jnn, jnat, Int.toNat_natCast, bJ_0, bJ_1, bft, gd_T, nar_J, nar_0, nar_1, if_true, if_false, Option.bind_some, gd_t, h.cb, h.cf])))
  rfl
theorem q4_cameInstead (h : MTb T FI AI) (hT : PTbOk T) (hn : 10000 ≤ n) {s : Int} (hs : -1 ≤ s) (hs2 : s < 20) {c : Nat} (hc : c < T.all) :
    mX4_cameInstead n FR AI AN (J s) (J c) = some (bJ (T.came s c)) := by
  have h66 := hT.all
  have hb := hT.b hc
  unfold mX4_cameInstead
  have key : lpF (fun v => mX4_cameInstead_b2 n FR AI AN (J s) (J c) v) n (J 0) = some (if T.came s c then .inr () else .inl ()) := by
    refine wp_any _ _ ?_ ?_ (by omega : T.nr c < n)
    · intro k hk
      have hb2 := hT.cast c k hc (by omega)
      have hb4 := hT.ahead c k hc (by omega)
      have hb3 := hT.S.nS
      unfold mX4_cameInstead_b2
      ((try (simp (disch := omega) only [J_lit, J_add, J_sub, J_mul, J_neg, J_n, jle, jlt, jeq, jnn, jnat, Int.toNat_natCast, bJ_0, bJ_1, bft, gd_T, nar_J, nar_0, nar_1, if_true, if_false, Option.bind_some, gd_t, h.co, h.nrT hT, h.cast, h.ahead])); repeat' ((first | ((with_reducible apply wp_gd); (focus (first | exact vp_J (by omega) (by omega) (by omega) | omega))) | (with_reducible apply wp_let) | (with_reducible apply wp_some) | ((with_reducible apply wp_ifT); (focus omega)) | ((with_reducible apply wp_ifF); (focus omega)) | ((with_reducible apply wp_if) <;> intro _) | (with_reducible apply wp_bind)) <;> try (simp (disch := omega) only [J_lit, J_add, J_sub, J_mul, J_neg, J_n, jle, jlt, jeq, jnn, jnat, Int.toNat_natCast, bJ_0, bJ_1, bft, gd_T, nar_J, nar_0, nar_1, if_true, if_false, Option.bind_some, gd_t, h.co, h.nrT hT, h.cast, h.ahead])))
      all_goals ((try simp only [LR_l, LR_r, Prod.mk.injEq, Sum.inl.injEq, Sum.inr.injEq, reduceCtorEq, and_true, true_and, and_false, false_and, or_false, false_or, decide_eq_true_eq, decide_eq_false_iff_not, beq_iff_eq, beq_eq_false_iff_ne, Bool.and_eq_true, Bool.and_eq_false_iff, Bool.or_eq_true, Bool.not_eq_true', Bool.not_eq_false', ne_eq, bJ_0, bJ_t, bJ_f]) <;> (first | omega | (simp_all; done) | (simp_all; omega) | (simp_all [bJ]; done) | (refine ⟨?_, ?_⟩ <;> (first | omega | (simp_all; done) | (simp_all; omega)))))
    · unfold mX4_cameInstead_b2
      ((try (simp (disch := omega) only [J_lit, J_add, J_sub, J_mul, J_neg, J_n, jle, jlt, jeq, jnn, jnat, Int.toNat_natCast, bJ_0, bJ_1, bft, gd_T, nar_J, nar_0, nar_1, if_true, if_false, Option.bind_some, gd_t, h.co, h.nrT hT])); repeat' ((first | ((with_reducible apply wp_gd); (focus (first | exact vp_J (by omega) (by omega) (by omega) | omega))) | (with_reducible apply wp_let) | (with_reducible apply wp_some) | ((with_reducible apply wp_ifT); (focus omega)) | ((with_reducible apply wp_ifF); (focus omega)) | ((with_reducible apply wp_if) <;> intro _) | (with_reducible apply wp_bind)) <;> try (simp (disch := omega) only [J_lit, J_add, J_sub, J_mul, J_neg, J_n, jle, jlt, jeq, jnn, jnat, Int.toNat_natCast, bJ_0, bJ_1, bft, gd_T, nar_J, nar_0, nar_1, if_true, if_false, Option.bind_some, gd_t, h.co, h.nrT hT])))
      all_goals ((try simp only [LR_l, LR_r, Prod.mk.injEq, Sum.inl.injEq, Sum.inr.injEq, reduceCtorEq, and_true, true_and, and_false, false_and, or_false, false_or, decide_eq_true_eq, decide_eq_false_iff_not, beq_iff_eq, beq_eq_false_iff_ne, Bool.and_eq_true, Bool.and_eq_false_iff, Bool.or_eq_true, Bool.not_eq_true', Bool.not_eq_false', ne_eq, bJ_0, bJ_t, bJ_f]) <;> (first | omega | (simp_all; done) | (simp_all; omega) | (simp_all [bJ]; done) | (refine ⟨?_, ?_⟩ <;> (first | omega | (simp_all; done) | (simp_all; omega)))))
  (simp (disch := omega) only [J_lit, J_add, J_sub, J_mul, J_neg, J_n, jle, jlt, jeq, jnn, jnat, Int.toNat_natCast, bJ_0, bJ_1, bft, gd_T, nar_J, nar_0, nar_1, if_true, if_false, Option.bind_some, gd_t, key])
  cases T.came s c <;> rfl
theorem q4_isIll (h : MTb T FI AI) (hT : PTbOk T) (hn : 10000 ≤ n) {s : Nat} (hs2 : s < 20) {d : Int} (hd : 0 ≤ d ∧ d ≤ 29) :
    mX4_isIll n FI FR AI AN (J s) (J d) = some (bJ (T.isIll s d)) := by
  have hI := hT.S.nI
  have ha := hT.asOf
  unfold mX4_isIll
  have key : lpF (fun v => mX4_isIll_b2 n FI FR AI AN (J s) (J d) v) n (J 0) = some (if T.isIll s d then .inr () else .inl ()) := by
    refine wp_any _ _ ?_ ?_ (by omega : T.S.nI < n)
    · intro k hk
      have hb2 := hT.S.il k hk
      have hb3 := hT.S.nS
      unfold mX4_isIll_b2
      ((try (simp (disch := omega) only [J_lit, J_add, J_sub, J_mul, J_neg, J_n, jle, jlt, jeq, jnn, jnat, Int.toNat_natCast, bJ_0, bJ_1, bft, gd_T, nar_J, nar_0, nar_1, if_true, if_false, Option.bind_some, gd_t, h.nI, h.asOf, h.ilS, h.ilF, h.ilT, h.ilD])); repeat' ((first | ((with_reducible apply wp_gd); (focus (first | exact vp_J (by omega) (by omega) (by omega) | omega))) | (with_reducible apply wp_let) | (with_reducible apply wp_some) | ((with_reducible apply wp_ifT); (focus omega)) | ((with_reducible apply wp_ifF); (focus omega)) | ((with_reducible apply wp_if) <;> intro _) | (with_reducible apply wp_bind)) <;> try (simp (disch := omega) only [J_lit, J_add, J_sub, J_mul, J_neg, J_n, jle, jlt, jeq, jnn, jnat, Int.toNat_natCast, bJ_0, bJ_1, bft, gd_T, nar_J, nar_0, nar_1, if_true, if_false, Option.bind_some, gd_t, h.nI, h.asOf, h.ilS, h.ilF, h.ilT, h.ilD])))
      all_goals ((try simp only [LR_l, LR_r, Prod.mk.injEq, Sum.inl.injEq, Sum.inr.injEq, reduceCtorEq, and_true, true_and, and_false, false_and, or_false, false_or, decide_eq_true_eq, decide_eq_false_iff_not, beq_iff_eq, beq_eq_false_iff_ne, Bool.and_eq_true, Bool.and_eq_false_iff, Bool.or_eq_true, Bool.not_eq_true', Bool.not_eq_false', ne_eq, bJ_0, bJ_t, bJ_f]) <;> (first | omega | (simp_all; done) | (simp_all; omega) | (simp_all [bJ]; done) | (refine ⟨?_, ?_⟩ <;> (first | omega | (simp_all; done) | (simp_all; omega)))))
    · unfold mX4_isIll_b2
      ((try (simp (disch := omega) only [J_lit, J_add, J_sub, J_mul, J_neg, J_n, jle, jlt, jeq, jnn, jnat, Int.toNat_natCast, bJ_0, bJ_1, bft, gd_T, nar_J, nar_0, nar_1, if_true, if_false, Option.bind_some, gd_t, h.nI])); repeat' ((first | ((with_reducible apply wp_gd); (focus (first | exact vp_J (by omega) (by omega) (by omega) | omega))) | (with_reducible apply wp_let) | (with_reducible apply wp_some) | ((with_reducible apply wp_ifT); (focus omega)) | ((with_reducible apply wp_ifF); (focus omega)) | ((with_reducible apply wp_if) <;> intro _) | (with_reducible apply wp_bind)) <;> try (simp (disch := omega) only [J_lit, J_add, J_sub, J_mul, J_neg, J_n, jle, jlt, jeq, jnn, jnat, Int.toNat_natCast, bJ_0, bJ_1, bft, gd_T, nar_J, nar_0, nar_1, if_true, if_false, Option.bind_some, gd_t, h.nI])))
      all_goals ((try simp only [LR_l, LR_r, Prod.mk.injEq, Sum.inl.injEq, Sum.inr.injEq, reduceCtorEq, and_true, true_and, and_false, false_and, or_false, false_or, decide_eq_true_eq, decide_eq_false_iff_not, beq_iff_eq, beq_eq_false_iff_ne, Bool.and_eq_true, Bool.and_eq_false_iff, Bool.or_eq_true, Bool.not_eq_true', Bool.not_eq_false', ne_eq, bJ_0, bJ_t, bJ_f]) <;> (first | omega | (simp_all; done) | (simp_all; omega) | (simp_all [bJ]; done) | (refine ⟨?_, ?_⟩ <;> (first | omega | (simp_all; done) | (simp_all; omega)))))
  (simp (disch := omega) only [J_lit, J_add, J_sub, J_mul, J_neg, J_n, jle, jlt, jeq, jnn, jnat, Int.toNat_natCast, bJ_0, bJ_1, bft, gd_T, nar_J, nar_0, nar_1, if_true, if_false, Option.bind_some, gd_t, key])
  cases T.isIll s d <;> rfl

theorem q4_learnedOf (h : MTb T FI AI) (hT : PTbOk T) (hn : 10000 ≤ n) {s c r : Nat} (hs2 : s < 20) (hc : c < T.all) (hr : r < T.nr c) :
    mX4_learnedOf n FI FR AI AN (J s) (J c) (J r) = some (J (T.learned s (T.ca c).op r (T.ca c).beg)) := by
  have h66 := hT.all
  have hb := hT.b hc
  have hL := hT.S.nL
  have ha := hT.asOf
  unfold mX4_learnedOf
  have k1 : lpF (fun v => mX4_learnedOf_b19 n FI FR AI AN (J s) (J c) (J r) v.1 (J (8 * ((T.ca c).op : Int) + (r : Int))) v.2) n (J 0, J 0) = some (J (sumN T.S.nL (fun k => if (T.S.le k).day ≤ T.asOf ∧ (T.S.le k).s = s ∧ (T.S.le k).op = (T.ca c).op ∧ (T.S.le k).role = r then (T.S.le k).hours else 0))) := by
    refine wp_sum _ _ ?_ ?_ (by omega : T.S.nL < n)
    · intro k x hk
      have hb2 := hT.S.le k hk
      have hb3 := hT.S.nS
      have hb4 := hT.S.nO
      have hb5 := (hT.S.op (T.S.le k).op hb2.2.1).nr
      unfold mX4_learnedOf_b19
      ((try (simp (disch := omega) only [J_lit, J_add, J_sub, J_mul, J_neg, J_n, jle, jlt, jeq, jnn, jnat, Int.toNat_natCast, bJ_0, bJ_1, bft, gd_T, nar_J, nar_0, nar_1, if_true, if_false, Option.bind_some, gd_t, h.nL, h.asOf, h.leS, h.leR, h.leH, h.leD, h.co])); repeat' ((first | ((with_reducible apply wp_gd); (focus (first | exact vp_J (by omega) (by omega) (by omega) | omega))) | (with_reducible apply wp_let) | (with_reducible apply wp_some) | ((with_reducible apply wp_ifT); (focus omega)) | ((with_reducible apply wp_ifF); (focus omega)) | ((with_reducible apply wp_if) <;> intro _) | (with_reducible apply wp_bind)) <;> try (simp (disch := omega) only [J_lit, J_add, J_sub, J_mul, J_neg, J_n, jle, jlt, jeq, jnn, jnat, Int.toNat_natCast, bJ_0, bJ_1, bft, gd_T, nar_J, nar_0, nar_1, if_true, if_false, Option.bind_some, gd_t, h.nL, h.asOf, h.leS, h.leR, h.leH, h.leD, h.co])))
      all_goals (try simp only [LR_l, LR_r, Prod.mk.injEq])
      all_goals (refine ⟨congrArg J ?_, trivial⟩)
      all_goals (first | (rw [if_pos (by omega)]; done) | (rw [if_neg (by omega)]))
    · intro x
      unfold mX4_learnedOf_b19
      ((try (simp (disch := omega) only [J_lit, J_add, J_sub, J_mul, J_neg, J_n, jle, jlt, jeq, jnn, jnat, Int.toNat_natCast, bJ_0, bJ_1, bft, gd_T, nar_J, nar_0, nar_1, if_true, if_false, Option.bind_some, gd_t, h.nL, h.asOf, h.leS, h.leR, h.leH, h.leD, h.co])); repeat' ((first | ((with_reducible apply wp_gd); (focus (first | exact vp_J (by omega) (by omega) (by omega) | omega))) | (with_reducible apply wp_let) | (with_reducible apply wp_some) | ((with_reducible apply wp_ifT); (focus omega)) | ((with_reducible apply wp_ifF); (focus omega)) | ((with_reducible apply wp_if) <;> intro _) | (with_reducible apply wp_bind)) <;> try (simp (disch := omega) only [J_lit, J_add, J_sub, J_mul, J_neg, J_n, jle, jlt, jeq, jnn, jnat, Int.toNat_natCast, bJ_0, bJ_1, bft, gd_T, nar_J, nar_0, nar_1, if_true, if_false, Option.bind_some, gd_t, h.nL, h.asOf, h.leS, h.leR, h.leH, h.leD, h.co])))
      all_goals ((try simp only [LR_l, LR_r, Prod.mk.injEq, Sum.inl.injEq, Sum.inr.injEq, reduceCtorEq, and_true, true_and, and_false, false_and, or_false, false_or, decide_eq_true_eq, decide_eq_false_iff_not, beq_iff_eq, beq_eq_false_iff_ne, Bool.and_eq_true, Bool.and_eq_false_iff, Bool.or_eq_true, Bool.not_eq_true', Bool.not_eq_false', ne_eq, bJ_0, bJ_t, bJ_f]) <;> (first | omega | (simp_all; done) | (simp_all; omega) | (simp_all [bJ]; done) | (refine ⟨?_, ?_⟩ <;> (first | omega | (simp_all; done) | (simp_all; omega)))))
  have k2 : ∀ x : Int, lpF (fun v => mX4_learnedOf_b90 n FI FR AI AN (J s) (J c) (J r) v.1 v.2) n (J x, J 0) = some (J (x + sumN T.all (fun d => if (T.ca d).kind ≠ 3 ∧ (T.ca d).op = (T.ca c).op ∧ T.cast d r = s ∧ (T.ca d).fin ≤ (T.ca c).beg then T.long d else 0))) := by
    intro x
    refine wp_fold (fun k => (J (x + sumN k (fun d => if (T.ca d).kind ≠ 3 ∧ (T.ca d).op = (T.ca c).op ∧ T.cast d r = s ∧ (T.ca d).fin ≤ (T.ca c).beg then T.long d else 0)), J k)) _ T.all ?_ ?_ (by omega : T.all < n) (by simp [sumN])
    · intro k hk
      have hb2 := hT.b hk
      have hb3 := hT.S.nS
      have hb4 := hT.cast k r hk (by omega)
      simp only []
      unfold mX4_learnedOf_b90
      ((try (simp (disch := omega) only [J_lit, J_add, J_sub, J_mul, J_neg, J_n, jle, jlt, jeq, jnn, jnat, Int.toNat_natCast, bJ_0, bJ_1, bft, gd_T, nar_J, nar_0, nar_1, if_true, if_false, Option.bind_some, gd_t, h.all, h.asOf, h.ck, h.co, h.cast, h.cb, h.cf, q4_longOf h hT])); repeat' ((first | ((with_reducible apply wp_gd); (focus (first | exact vp_J (by omega) (by omega) (by omega) | omega))) | (with_reducible apply wp_let) | (with_reducible apply wp_some) | ((with_reducible apply wp_ifT); (focus omega)) | ((with_reducible apply wp_ifF); (focus omega)) | ((with_reducible apply wp_if) <;> intro _) | (with_reducible apply wp_bind)) <;> try (simp (disch := omega) only [J_lit, J_add, J_sub, J_mul, J_neg, J_n, jle, jlt, jeq, jnn, jnat, Int.toNat_natCast, bJ_0, bJ_1, bft, gd_T, nar_J, nar_0, nar_1, if_true, if_false, Option.bind_some, gd_t, h.all, h.asOf, h.ck, h.co, h.cast, h.cb, h.cf, q4_longOf h hT])))
      all_goals (try simp only [LR_l, LR_r, Prod.mk.injEq, sumN])
      all_goals (refine ⟨congrArg J ?_, congrArg J (by omega)⟩)
      all_goals (first | (rw [if_pos (by omega)]; omega) | (rw [if_neg (by omega)]; omega))
    · simp only []
      unfold mX4_learnedOf_b90
      ((try (simp (disch := omega) only [J_lit, J_add, J_sub, J_mul, J_neg, J_n, jle, jlt, jeq, jnn, jnat, Int.toNat_natCast, bJ_0, bJ_1, bft, gd_T, nar_J, nar_0, nar_1, if_true, if_false, Option.bind_some, gd_t, h.all, h.asOf, h.ck, h.co, h.cast, h.cb, h.cf, q4_longOf h hT])); repeat' ((first | ((with_reducible apply wp_gd); (focus (first | exact vp_J (by omega) (by omega) (by omega) | omega))) | (with_reducible apply wp_let) | (with_reducible apply wp_some) | ((with_reducible apply wp_ifT); (focus omega)) | ((with_reducible apply wp_ifF); (focus omega)) | ((with_reducible apply wp_if) <;> intro _) | (with_reducible apply wp_bind)) <;> try (simp (disch := omega) only [J_lit, J_add, J_sub, J_mul, J_neg, J_n, jle, jlt, jeq, jnn, jnat, Int.toNat_natCast, bJ_0, bJ_1, bft, gd_T, nar_J, nar_0, nar_1, if_true, if_false, Option.bind_some, gd_t, h.all, h.asOf, h.ck, h.co, h.cast, h.cb, h.cf, q4_longOf h hT])))
      all_goals ((try simp only [LR_l, LR_r, Prod.mk.injEq, Sum.inl.injEq, Sum.inr.injEq, reduceCtorEq, and_true, true_and, and_false, false_and, or_false, false_or, decide_eq_true_eq, decide_eq_false_iff_not, beq_iff_eq, beq_eq_false_iff_ne, Bool.and_eq_true, Bool.and_eq_false_iff, Bool.or_eq_true, Bool.not_eq_true', Bool.not_eq_false', ne_eq, bJ_0, bJ_t, bJ_f]) <;> (first | omega | (simp_all; done) | (simp_all; omega) | (simp_all [bJ]; done) | (refine ⟨?_, ?_⟩ <;> (first | omega | (simp_all; done) | (simp_all; omega)))))
  apply wp_eq
  ((try (simp (disch := omega) only [J_lit, J_add, J_sub, J_mul, J_neg, J_n, jle, jlt, jeq, jnn, jnat, Int.toNat_natCast, bJ_0, bJ_1, bft, gd_T, nar_J, nar_0, nar_1, if_true, if_false, Option.bind_some, gd_t, h.co, k1, k2])); repeat' ((first | ((with_reducible apply wp_gd); (focus (first | exact vp_J (by omega) (by omega) (by omega) | omega))) | (with_reducible apply wp_let) | (with_reducible apply wp_some) | ((with_reducible apply wp_ifT); (focus omega)) | ((with_reducible apply wp_ifF); (focus omega)) | ((with_reducible apply wp_if) <;> intro _) | (with_reducible apply wp_bind)) <;> try (simp (disch := omega) only [J_lit, J_add, J_sub, J_mul, J_neg, J_n, jle, jlt, jeq, jnn, jnat, Int.toNat_natCast, bJ_0, bJ_1, bft, gd_T, nar_J, nar_0, nar_1, if_true, if_false, Option.bind_some, gd_t, h.co, k1, k2])))
  rfl
end
end
