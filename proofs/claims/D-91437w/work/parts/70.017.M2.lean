noncomputable section
set_option linter.unusedVariables false
set_option linter.unusedSimpArgs false
/-! PLAIN 5: what the twin's questions answer, 2 -/
section
variable {T : PTb} {FI AI : OhI} {n : Nat} {FR : OhQ} {AN : OhN}
theorem q4_dayHours (h : MTb T FI AI) (hT : PTbOk T) (hn : 10000 ≤ n) {s c : Nat} (hs2 : s < 20) (hc : c < T.all) :
    mX4_dayHours n FR AI AN (J s) (J c) = some (J (T.dayHours s c)) := by
  have h66 := hT.all
  have hb := hT.b hc
  unfold mX4_dayHours
  have k1 : lpF (fun v => mX4_dayHours_b5 n FR AI AN (J s) (J c) v.1 v.2) n (J 0, J 0) = some (J (T.dayHours s c)) := by
    refine wp_sum _ _ ?_ ?_ (by omega : T.pos c + 1 < n)
    · intro k x hk
      have ho := hT.ord k (by omega)
      have hb2 := hT.b ho
      unfold mX4_dayHours_b5
      ((try (simp (disch := omega) only [J_lit, J_add, J_sub, J_mul, J_neg, J_n, jle, jlt, jeq, jnn, jnat, Int.toNat_natCast, bJ_0, bJ_1, bft, gd_T, nar_J, nar_0, nar_1, if_true, if_false, Option.bind_some, gd_t, h.pos, h.ord, h.cd, q4_isIn2 h hT, q4_longOf h hT])); repeat' ((first | ((with_reducible apply wp_gd); (focus (first | exact vp_J (by omega) (by omega) (by omega) | omega))) | (with_reducible apply wp_let) | (with_reducible apply wp_some) | ((with_reducible apply wp_ifT); (focus omega)) | ((with_reducible apply wp_ifF); (focus omega)) | ((with_reducible apply wp_if) <;> intro _) | (with_reducible apply wp_bind)) <;> try (simp (disch := omega) only [J_lit, J_add, J_sub, J_mul, J_neg, J_n, jle, jlt, jeq, jnn, jnat, Int.toNat_natCast, bJ_0, bJ_1, bft, gd_T, nar_J, nar_0, nar_1, if_true, if_false, Option.bind_some, gd_t, h.pos, h.ord, h.cd, q4_isIn2 h hT, q4_longOf h hT])))
      all_goals ((try simp only [LR_l, LR_r, Prod.mk.injEq, sumN]); (first | (exfalso; omega) | ((refine ⟨congrArg J ?_, (by first | trivial | exact congrArg J (by omega))⟩); (first | (rw [if_pos (by first | omega | (simp_all; done) | (simp_all; omega))]; first | done | omega) | (rw [if_neg (by first | omega | (simp_all; done) | (simp_all; omega))]; first | done | omega))) | ((try simp only [LR_l, LR_r, Prod.mk.injEq, Sum.inl.injEq, Sum.inr.injEq, reduceCtorEq, and_true, true_and, and_false, false_and, or_false, false_or, decide_eq_true_eq, decide_eq_false_iff_not, beq_iff_eq, beq_eq_false_iff_ne, Bool.and_eq_true, Bool.and_eq_false_iff, Bool.or_eq_true, Bool.not_eq_true', Bool.not_eq_false', ne_eq, bJ_0, bJ_t, bJ_f]) <;> (first | omega | (simp_all; done) | (simp_all; omega) | (simp_all [bJ]; done) | (refine ⟨?_, ?_⟩ <;> (first | omega | (simp_all; done) | (simp_all; omega)))))))
    · intro x
      unfold mX4_dayHours_b5
      ((try (simp (disch := omega) only [J_lit, J_add, J_sub, J_mul, J_neg, J_n, jle, jlt, jeq, jnn, jnat, Int.toNat_natCast, bJ_0, bJ_1, bft, gd_T, nar_J, nar_0, nar_1, if_true, if_false, Option.bind_some, gd_t, h.pos])); repeat' ((first | ((with_reducible apply wp_gd); (focus (first | exact vp_J (by omega) (by omega) (by omega) | omega))) | (with_reducible apply wp_let) | (with_reducible apply wp_some) | ((with_reducible apply wp_ifT); (focus omega)) | ((with_reducible apply wp_ifF); (focus omega)) | ((with_reducible apply wp_if) <;> intro _) | (with_reducible apply wp_bind)) <;> try (simp (disch := omega) only [J_lit, J_add, J_sub, J_mul, J_neg, J_n, jle, jlt, jeq, jnn, jnat, Int.toNat_natCast, bJ_0, bJ_1, bft, gd_T, nar_J, nar_0, nar_1, if_true, if_false, Option.bind_some, gd_t, h.pos])))
      all_goals ((try simp only [LR_l, LR_r, Prod.mk.injEq, Sum.inl.injEq, Sum.inr.injEq, reduceCtorEq, and_true, true_and, and_false, false_and, or_false, false_or, decide_eq_true_eq, decide_eq_false_iff_not, beq_iff_eq, beq_eq_false_iff_ne, Bool.and_eq_true, Bool.and_eq_false_iff, Bool.or_eq_true, Bool.not_eq_true', Bool.not_eq_false', ne_eq, bJ_0, bJ_t, bJ_f]) <;> (first | omega | (simp_all; done) | (simp_all; omega) | (simp_all [bJ]; done) | (refine ⟨?_, ?_⟩ <;> (first | omega | (simp_all; done) | (simp_all; omega)))))
  rw [show ((0 : Int32)) = J 0 from J_lit 0, k1]
  rfl
theorem q4_nights (h : MTb T FI AI) (hT : PTbOk T) (hn : 10000 ≤ n) {s c : Nat} (hs2 : s < 20) (hc : c < T.all) {days : Int} (hd : 0 ≤ days ∧ days ≤ 1000) :
    mX4_nights n FR AI AN (J s) (J c) (J days) = some (J (T.nights s c days)) := by
  have h66 := hT.all
  have hb := hT.b hc
  unfold mX4_nights
  have k1 : lpF (fun v => mX4_nights_b6 n FR AI AN (J s) (J c) (J days) v.1 v.2) n (J 0, J 0) = some (J (T.nights s c days)) := by
    refine wp_sum _ _ ?_ ?_ (by omega : T.pos c + 1 < n)
    · intro k x hk
      have ho := hT.ord k (by omega)
      have hb2 := hT.b ho
      unfold mX4_nights_b6
      ((try (simp (disch := omega) only [J_lit, J_add, J_sub, J_mul, J_neg, J_n, jle, jlt, jeq, jnn, jnat, Int.toNat_natCast, bJ_0, bJ_1, bft, gd_T, nar_J, nar_0, nar_1, if_true, if_false, Option.bind_some, gd_t, h.pos, h.ord, h.cd, h.ck, q4_isIn2 h hT])); repeat' ((first | ((with_reducible apply wp_gd); (focus (first | exact vp_J (by omega) (by omega) (by omega) | omega))) | (with_reducible apply wp_let) | (with_reducible apply wp_some) | ((with_reducible apply wp_ifT); (focus omega)) | ((with_reducible apply wp_ifF); (focus omega)) | ((with_reducible apply wp_if) <;> intro _) | (with_reducible apply wp_bind)) <;> try (simp (disch := omega) only [J_lit, J_add, J_sub, J_mul, J_neg, J_n, jle, jlt, jeq, jnn, jnat, Int.toNat_natCast, bJ_0, bJ_1, bft, gd_T, nar_J, nar_0, nar_1, if_true, if_false, Option.bind_some, gd_t, h.pos, h.ord, h.cd, h.ck, q4_isIn2 h hT])))
      all_goals ((try simp only [LR_l, LR_r, Prod.mk.injEq, sumN]); (first | (exfalso; omega) | ((refine ⟨congrArg J ?_, (by first | trivial | exact congrArg J (by omega))⟩); (first | (rw [if_pos (by first | omega | (simp_all; done) | (simp_all; omega))]; first | done | omega) | (rw [if_neg (by first | omega | (simp_all; done) | (simp_all; omega))]; first | done | omega))) | ((try simp only [LR_l, LR_r, Prod.mk.injEq, Sum.inl.injEq, Sum.inr.injEq, reduceCtorEq, and_true, true_and, and_false, false_and, or_false, false_or, decide_eq_true_eq, decide_eq_false_iff_not, beq_iff_eq, beq_eq_false_iff_ne, Bool.and_eq_true, Bool.and_eq_false_iff, Bool.or_eq_true, Bool.not_eq_true', Bool.not_eq_false', ne_eq, bJ_0, bJ_t, bJ_f]) <;> (first | omega | (simp_all; done) | (simp_all; omega) | (simp_all [bJ]; done) | (refine ⟨?_, ?_⟩ <;> (first | omega | (simp_all; done) | (simp_all; omega)))))))
    · intro x
      unfold mX4_nights_b6
      ((try (simp (disch := omega) only [J_lit, J_add, J_sub, J_mul, J_neg, J_n, jle, jlt, jeq, jnn, jnat, Int.toNat_natCast, bJ_0, bJ_1, bft, gd_T, nar_J, nar_0, nar_1, if_true, if_false, Option.bind_some, gd_t, h.pos])); repeat' ((first | ((with_reducible apply wp_gd); (focus (first | exact vp_J (by omega) (by omega) (by omega) | omega))) | (with_reducible apply wp_let) | (with_reducible apply wp_some) | ((with_reducible apply wp_ifT); (focus omega)) | ((with_reducible apply wp_ifF); (focus omega)) | ((with_reducible apply wp_if) <;> intro _) | (with_reducible apply wp_bind)) <;> try (simp (disch := omega) only [J_lit, J_add, J_sub, J_mul, J_neg, J_n, jle, jlt, jeq, jnn, jnat, Int.toNat_natCast, bJ_0, bJ_1, bft, gd_T, nar_J, nar_0, nar_1, if_true, if_false, Option.bind_some, gd_t, h.pos])))
      all_goals ((try simp only [LR_l, LR_r, Prod.mk.injEq, Sum.inl.injEq, Sum.inr.injEq, reduceCtorEq, and_true, true_and, and_false, false_and, or_false, false_or, decide_eq_true_eq, decide_eq_false_iff_not, beq_iff_eq, beq_eq_false_iff_ne, Bool.and_eq_true, Bool.and_eq_false_iff, Bool.or_eq_true, Bool.not_eq_true', Bool.not_eq_false', ne_eq, bJ_0, bJ_t, bJ_f]) <;> (first | omega | (simp_all; done) | (simp_all; omega) | (simp_all [bJ]; done) | (refine ⟨?_, ?_⟩ <;> (first | omega | (simp_all; done) | (simp_all; omega)))))
  rw [show ((0 : Int32)) = J 0 from J_lit 0, k1]
  rfl
theorem q4_isOn (h : MTb T FI AI) (hT : PTbOk T) {d c : Nat} (hd : d < T.all) (hc : c < T.all) : mX4_isOn FR AI AN (J d) (J c) = some (bJ (T.isOn d c)) := by
  have h66 := hT.all
  have hb := hT.b hc
  have hb2 := hT.b hd
  apply wp_eq
  unfold mX4_isOn
  ((try (simp (disch := omega) only [J_lit, J_add, J_sub, J_mul, J_neg, J_n, jle, jlt, jeq, jnn, jnat, Int.toNat_natCast, bJ_0, bJ_1, bft, gd_T, nar_J, nar_0, nar_1, if_true, if_false, Option.bind_some, gd_t, h.pos, h.cb, h.cf])); repeat' ((first | ((with_reducible apply wp_gd); (focus (first | exact vp_J (by omega) (by omega) (by omega) | omega))) | (with_reducible apply wp_let) | (with_reducible apply wp_some) | ((with_reducible apply wp_ifT); (focus omega)) | ((with_reducible apply wp_ifF); (focus omega)) | ((with_reducible apply wp_if) <;> intro _) | (with_reducible apply wp_bind)) <;> try (simp (disch := omega) only [J_lit, J_add, J_sub, J_mul, J_neg, J_n, jle, jlt, jeq, jnn, jnat, Int.toNat_natCast, bJ_0, bJ_1, bft, gd_T, nar_J, nar_0, nar_1, if_true, if_false, Option.bind_some, gd_t, h.pos, h.cb, h.cf])))
  all_goals (unfold PTb.isOn; ((first | refine bJ_e1 ?_ | refine bJ_e0 ?_); (try simp only [decide_eq_true_eq, decide_eq_false_iff_not, beq_iff_eq, beq_eq_false_iff_ne, Bool.and_eq_true, Bool.and_eq_false_iff, Bool.or_eq_true, Bool.or_eq_false_iff, Bool.not_eq_true', Bool.not_eq_false', Bool.not_eq_true, ne_eq] at *); (first | omega | (simp_all; done) | (simp_all; omega))))
theorem sumN01 {n : Nat} {P : Nat → Prop} [DecidablePred P] : 0 ≤ sumN n (fun d => if P d then 1 else 0) ∧ sumN n (fun d => if P d then 1 else 0) ≤ n := by
  refine ⟨sumN_nn fun k _ => by split <;> omega, ?_⟩
  have := sumN_le (n := n) (f := fun d => if P d then 1 else 0) (B := 1) (fun k _ => by split <;> omega)
  omega
theorem q4_isFullStage (h : MTb T FI AI) (hT : PTbOk T) (hn : 10000 ≤ n) {c : Nat} (hc : c < T.all) : mX4_isFullStage n FI FR AI AN (J c) = some (bJ (T.taken c)) := by
  have h66 := hT.all
  have hb := hT.b hc
  unfold mX4_isFullStage
  have k1 : lpF (fun v => mX4_isFullStage_b18 n FI FR AI AN (J c) v.1 v.2.1 v.2.2) n (J 0, J 0, J 0) = some (J (T.marks c), J (T.others c)) := by
    refine wp_fold (fun k => (J (sumN k (fun d => if (T.ca d).kind = 1 ∧ T.isOn d c = true then 1 else 0)), J (sumN k (fun d => if (T.ca d).kind ≠ 0 ∧ (T.ca d).kind ≠ 1 ∧ T.isOn d c = true then 1 else 0)), J k)) _ T.all ?_ ?_ (by omega : T.all < n) rfl
    · intro k hk
      have hb2 := hT.b hk
      simp only []
      unfold mX4_isFullStage_b18 mX4_isFullStage_j67
      ((try (simp (disch := omega) only [J_lit, J_add, J_sub, J_mul, J_neg, J_n, jle, jlt, jeq, jnn, jnat, Int.toNat_natCast, bJ_0, bJ_1, bft, gd_T, nar_J, nar_0, nar_1, if_true, if_false, Option.bind_some, gd_t, h.all, h.ck, q4_isOn h hT])); repeat' ((first | ((with_reducible apply wp_gd); (focus (first | exact vp_J (by omega) (by omega) (by omega) | omega))) | (with_reducible apply wp_let) | (with_reducible apply wp_some) | ((with_reducible apply wp_ifT); (focus omega)) | ((with_reducible apply wp_ifF); (focus omega)) | ((with_reducible apply wp_if) <;> intro _) | (with_reducible apply wp_bind)) <;> try (simp (disch := omega) only [J_lit, J_add, J_sub, J_mul, J_neg, J_n, jle, jlt, jeq, jnn, jnat, Int.toNat_natCast, bJ_0, bJ_1, bft, gd_T, nar_J, nar_0, nar_1, if_true, if_false, Option.bind_some, gd_t, h.all, h.ck, q4_isOn h hT])))
      all_goals (simp only [LR_l, Prod.mk.injEq, sumN])
      all_goals (refine ⟨congrArg J ?_, congrArg J ?_, congrArg J (by omega)⟩)
      all_goals (first | (rw [if_pos (by first | omega | (simp_all; done))]; first | done | omega) | (rw [if_neg (by first | omega | (simp_all; done))]; first | done | omega))
    · simp only []
      unfold mX4_isFullStage_b18
      ((try (simp (disch := omega) only [J_lit, J_add, J_sub, J_mul, J_neg, J_n, jle, jlt, jeq, jnn, jnat, Int.toNat_natCast, bJ_0, bJ_1, bft, gd_T, nar_J, nar_0, nar_1, if_true, if_false, Option.bind_some, gd_t, h.all])); repeat' ((first | ((with_reducible apply wp_gd); (focus (first | exact vp_J (by omega) (by omega) (by omega) | omega))) | (with_reducible apply wp_let) | (with_reducible apply wp_some) | ((with_reducible apply wp_ifT); (focus omega)) | ((with_reducible apply wp_ifF); (focus omega)) | ((with_reducible apply wp_if) <;> intro _) | (with_reducible apply wp_bind)) <;> try (simp (disch := omega) only [J_lit, J_add, J_sub, J_mul, J_neg, J_n, jle, jlt, jeq, jnn, jnat, Int.toNat_natCast, bJ_0, bJ_1, bft, gd_T, nar_J, nar_0, nar_1, if_true, if_false, Option.bind_some, gd_t, h.all])))
      all_goals (simp only [LR_r]; rfl)
  have b1 : 0 ≤ T.marks c ∧ T.marks c ≤ T.all := sumN01
  have b2 : 0 ≤ T.others c ∧ T.others c ≤ T.all := sumN01
  apply wp_eq
  unfold mX4_isFullStage_j114
  ((try (simp (disch := omega) only [J_lit, J_add, J_sub, J_mul, J_neg, J_n, jle, jlt, jeq, jnn, jnat, Int.toNat_natCast, bJ_0, bJ_1, bft, gd_T, nar_J, nar_0, nar_1, if_true, if_false, Option.bind_some, gd_t, k1, h.ck])); repeat' ((first | ((with_reducible apply wp_gd); (focus (first | exact vp_J (by omega) (by omega) (by omega) | omega))) | (with_reducible apply wp_let) | (with_reducible apply wp_some) | ((with_reducible apply wp_ifT); (focus omega)) | ((with_reducible apply wp_ifF); (focus omega)) | ((with_reducible apply wp_if) <;> intro _) | (with_reducible apply wp_bind)) <;> try (simp (disch := omega) only [J_lit, J_add, J_sub, J_mul, J_neg, J_n, jle, jlt, jeq, jnn, jnat, Int.toNat_natCast, bJ_0, bJ_1, bft, gd_T, nar_J, nar_0, nar_1, if_true, if_false, Option.bind_some, gd_t, k1, h.ck])))
  all_goals (unfold PTb.taken; ((first | refine bJ_e1 ?_ | refine bJ_e0 ?_); (try simp only [decide_eq_true_eq, decide_eq_false_iff_not, beq_iff_eq, beq_eq_false_iff_ne, Bool.and_eq_true, Bool.and_eq_false_iff, Bool.or_eq_true, Bool.or_eq_false_iff, Bool.not_eq_true', Bool.not_eq_false', Bool.not_eq_true, ne_eq] at *); (first | omega | (simp_all; done) | (simp_all; omega))))
end
end
