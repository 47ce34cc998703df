noncomputable section
set_option linter.unusedVariables false
set_option linter.unusedSimpArgs false
/-! PLAIN 8: how tired one is (twin) -/
section
variable {T : PTb} {FI AI : OhI} {n : Nat} {FR : OhQ} {AN : OhN}
theorem q4_tir1 (h : MTb T FI AI) (hT : PTbOk T) (hn : 10000 ≤ n) {s c : Nat} (hs : s < 20) (hc : c < T.all) (t was : Int) (k : Nat) (hk : k < T.all) : lpF (fun v => mX4_tiredOf_b34 n FR AI AN (J s) (J c) (J t) (J was) (J k) (J (T.ord k)) v.1 v.2) n (J 0, J 0) = some (J (T.strain s (T.ord k))) := by
    have h66 := hT.all
    have ho := hT.ord k hk
    have hb2 := hT.b ho
    by_cases hi : T.isCast s (T.ord k) = true
    · refine wp_sum _ _ ?_ ?_ (by omega : T.nr (T.ord k) < n)
      · intro r x hr
        have hb3 := hT.cast _ r ho (by omega)
        have hS := hT.S.nS
        unfold mX4_tiredOf_b34
        ((try (simp (disch := omega) only [J_lit, J_add, J_sub, J_mul, J_neg, J_n, jle, jlt, jeq, jnn, jnat, Int.toNat_natCast, bJ_0, bJ_1, bft, gd_T, nar_J, nar_0, nar_1, if_true, if_false, Option.bind_some, gd_t, h.co, h.nrT hT, q4_isIn2 h hT, hi, h.cast, show AI 113 0 (8 * ((T.ca (T.ord k)).op : Int) + (r : Int)).toNat = J ((T.o (T.ord k)).ro r).strain from h.strain _ r hb2.1 hr])); repeat' ((first | ((with_reducible apply wp_gd); (focus (first | exact vp_J (by omega) (by omega) (by omega) | omega))) | (with_reducible apply wp_let) | (with_reducible apply wp_some) | ((with_reducible apply wp_ifT); (focus omega)) | ((with_reducible apply wp_ifF); (focus omega)) | ((with_reducible apply wp_if) <;> intro _) | (with_reducible apply wp_bind)) <;> try (simp (disch := omega) only [J_lit, J_add, J_sub, J_mul, J_neg, J_n, jle, jlt, jeq, jnn, jnat, Int.toNat_natCast, bJ_0, bJ_1, bft, gd_T, nar_J, nar_0, nar_1, if_true, if_false, Option.bind_some, gd_t, h.co, h.nrT hT, q4_isIn2 h hT, hi, h.cast, show AI 113 0 (8 * ((T.ca (T.ord k)).op : Int) + (r : Int)).toNat = J ((T.o (T.ord k)).ro r).strain from h.strain _ r hb2.1 hr])))
        all_goals ((try simp only [LR_l, LR_r, Prod.mk.injEq, sumN]); (first | (exfalso; omega) | ((refine ⟨congrArg J ?_, (by first | trivial | exact congrArg J (by omega))⟩); (first | (rw [if_pos (by first | omega | (simp_all; done) | (simp_all; omega))]; first | done | omega) | (rw [if_neg (by first | omega | (simp_all; done) | (simp_all; omega))]; first | done | omega))) | ((try simp only [LR_l, LR_r, Prod.mk.injEq, Sum.inl.injEq, Sum.inr.injEq, reduceCtorEq, and_true, true_and, and_false, false_and, or_false, false_or, decide_eq_true_eq, decide_eq_false_iff_not, beq_iff_eq, beq_eq_false_iff_ne, Bool.and_eq_true, Bool.and_eq_false_iff, Bool.or_eq_true, Bool.not_eq_true', Bool.not_eq_false', ne_eq, bJ_0, bJ_t, bJ_f]) <;> (first | omega | (simp_all; done) | (simp_all; omega) | (simp_all [bJ]; done) | (refine ⟨?_, ?_⟩ <;> (first | omega | (simp_all; done) | (simp_all; omega)))))))
      · intro x
        unfold mX4_tiredOf_b34
        ((try (simp (disch := omega) only [J_lit, J_add, J_sub, J_mul, J_neg, J_n, jle, jlt, jeq, jnn, jnat, Int.toNat_natCast, bJ_0, bJ_1, bft, gd_T, nar_J, nar_0, nar_1, if_true, if_false, Option.bind_some, gd_t, h.co, h.nrT hT, q4_isIn2 h hT])); repeat' ((first | ((with_reducible apply wp_gd); (focus (first | exact vp_J (by omega) (by omega) (by omega) | omega))) | (with_reducible apply wp_let) | (with_reducible apply wp_some) | ((with_reducible apply wp_ifT); (focus omega)) | ((with_reducible apply wp_ifF); (focus omega)) | ((with_reducible apply wp_if) <;> intro _) | (with_reducible apply wp_bind)) <;> try (simp (disch := omega) only [J_lit, J_add, J_sub, J_mul, J_neg, J_n, jle, jlt, jeq, jnn, jnat, Int.toNat_natCast, bJ_0, bJ_1, bft, gd_T, nar_J, nar_0, nar_1, if_true, if_false, Option.bind_some, gd_t, h.co, h.nrT hT, q4_isIn2 h hT])))
        all_goals ((try simp only [LR_l, LR_r, Prod.mk.injEq, Sum.inl.injEq, Sum.inr.injEq, reduceCtorEq, and_true, true_and, and_false, false_and, or_false, false_or, decide_eq_true_eq, decide_eq_false_iff_not, beq_iff_eq, beq_eq_false_iff_ne, Bool.and_eq_true, Bool.and_eq_false_iff, Bool.or_eq_true, Bool.not_eq_true', Bool.not_eq_false', ne_eq, bJ_0, bJ_t, bJ_f]) <;> (first | omega | (simp_all; done) | (simp_all; omega) | (simp_all [bJ]; done) | (refine ⟨?_, ?_⟩ <;> (first | omega | (simp_all; done) | (simp_all; omega)))))
    · have hi2 : T.isCast s (T.ord k) = false := by simpa using hi
      rw [show T.strain s (T.ord k) = 0 by rw [strain_0 hT ho]; exact hi2]
      apply wp_eq
      refine wp_lp (fun _ => 0) (fun a => a = (J 0, J 0)) ?_ rfl (by omega)
      rintro a rfl
      unfold mX4_tiredOf_b34
      ((try (simp (disch := omega) only [J_lit, J_add, J_sub, J_mul, J_neg, J_n, jle, jlt, jeq, jnn, jnat, Int.toNat_natCast, bJ_0, bJ_1, bft, gd_T, nar_J, nar_0, nar_1, if_true, if_false, Option.bind_some, gd_t, h.co, h.nrT hT, q4_isIn2 h hT, hi2])); repeat' ((first | ((with_reducible apply wp_gd); (focus (first | exact vp_J (by omega) (by omega) (by omega) | omega))) | (with_reducible apply wp_let) | (with_reducible apply wp_some) | ((with_reducible apply wp_ifT); (focus omega)) | ((with_reducible apply wp_ifF); (focus omega)) | ((with_reducible apply wp_if) <;> intro _) | (with_reducible apply wp_bind)) <;> try (simp (disch := omega) only [J_lit, J_add, J_sub, J_mul, J_neg, J_n, jle, jlt, jeq, jnn, jnat, Int.toNat_natCast, bJ_0, bJ_1, bft, gd_T, nar_J, nar_0, nar_1, if_true, if_false, Option.bind_some, gd_t, h.co, h.nrT hT, q4_isIn2 h hT, hi2])))
      all_goals ((try simp only [LR_l, LR_r, Prod.mk.injEq, Sum.inl.injEq, Sum.inr.injEq, reduceCtorEq, and_true, true_and, and_false, false_and, or_false, false_or, decide_eq_true_eq, decide_eq_false_iff_not, beq_iff_eq, beq_eq_false_iff_ne, Bool.and_eq_true, Bool.and_eq_false_iff, Bool.or_eq_true, Bool.not_eq_true', Bool.not_eq_false', ne_eq, bJ_0, bJ_t, bJ_f]) <;> (first | omega | (simp_all; done) | (simp_all; omega) | (simp_all [bJ]; done) | (refine ⟨?_, ?_⟩ <;> (first | omega | (simp_all; done) | (simp_all; omega)))))
theorem q4_tir2 (h : MTb T FI AI) (hT : PTbOk T) {s c : Nat} (hc : c < T.all) {t was y : Int} {k : Nat} (hk : k < T.all) (h1 : 0 ≤ t ∧ t ≤ 90000) (h2 : 0 ≤ was ∧ was ≤ 800) (h3 : 0 ≤ y ∧ y ≤ 480) :
    mX4_tiredOf_j146 n FR AI AN (J s) (J c) (J t) (J was) (J k) (J (T.ord k)) (J y) = some (.inl (if y > 0 ∨ T.ord k = c then (J (max 0 (t - ((T.ca (T.ord k)).beg - was)) + y), J (T.ca (T.ord k)).beg, J (k + 1)) else (J t, J was, J (k + 1)))) := by
  have h66 := hT.all
  have ho := hT.ord k hk
  have hb2 := hT.b ho
  have hm : max 0 (t - ((T.ca (T.ord k)).beg - was)) = if t ≤ (T.ca (T.ord k)).beg - was then 0 else t - (T.ca (T.ord k)).beg + was := by split <;> omega
  rw [hm]
  apply wp_eq
  unfold mX4_tiredOf_j146 mX4_tiredOf_j162 mX4_tiredOf_j192
  ((try (simp (disch := omega) only [J_lit, J_add, J_sub, J_mul, J_neg, J_n, jle, jlt, jeq, jnn, jnat, Int.toNat_natCast, bJ_0, bJ_1, bft, gd_T, nar_J, nar_0, nar_1, if_true, if_false, Option.bind_some, gd_t, h.cb])); repeat' ((first | ((with_reducible apply wp_gd); (focus (first | exact vp_J (by omega) (by omega) (by omega) | omega))) | (with_reducible apply wp_let) | (with_reducible apply wp_some) | ((with_reducible apply wp_ifT); (focus omega)) | ((with_reducible apply wp_ifF); (focus omega)) | ((with_reducible apply wp_if) <;> intro _) | (with_reducible apply wp_bind)) <;> try (simp (disch := omega) only [J_lit, J_add, J_sub, J_mul, J_neg, J_n, jle, jlt, jeq, jnn, jnat, Int.toNat_natCast, bJ_0, bJ_1, bft, gd_T, nar_J, nar_0, nar_1, if_true, if_false, Option.bind_some, gd_t, h.cb])))
  all_goals (first | (rw [if_pos (by omega)]; first | rw [if_pos (by omega)] | rw [if_neg (by omega)]) | rw [if_neg (by omega)])
theorem q4_tiredOf (h : MTb T FI AI) (hT : PTbOk T) (hn : 10000 ≤ n) {s c : Nat} (hs : s < 20) (hc : c < T.all) : mX4_tiredOf n FR AI AN (J s) (J c) = some (J (T.tired s c)) := by
  have h66 := hT.all
  have hb := hT.b hc
  have k1 : lpF (fun v => mX4_tiredOf_b8 n FR AI AN (J s) (J c) v.1 v.2.1 v.2.2) n (J 0, J 0, J 0) = some (J (T.tired s c)) := by
    refine wp_fold (fun k => (J (T.tir s c k).1, J (T.tir s c k).2, J k)) _ (T.pos c + 1) ?_ ?_ (by omega : T.pos c + 1 < n) rfl
    · intro k hk
      have ho := hT.ord k (by omega)
      have hb2 := hT.b ho
      have ht := tir_b hT (s := s) (c := c) k (by omega)
      have h1 : 0 ≤ T.strain s (T.ord k) ∧ T.strain s (T.ord k) ≤ 240 := strain_b hT ho _ (Nat.le_refl _)
      simp only []
      unfold mX4_tiredOf_b8 mX4_tiredOf_j111
      ((try (simp (disch := omega) only [J_lit, J_add, J_sub, J_mul, J_neg, J_n, jle, jlt, jeq, jnn, jnat, Int.toNat_natCast, bJ_0, bJ_1, bft, gd_T, nar_J, nar_0, nar_1, if_true, if_false, Option.bind_some, gd_t, h.pos, h.ord, h.ck, q4_tir1 h hT hn hs hc, q4_tir2 h hT hc])); repeat' ((first | ((with_reducible apply wp_gd); (focus (first | exact vp_J (by omega) (by omega) (by omega) | omega))) | (with_reducible apply wp_let) | (with_reducible apply wp_some) | ((with_reducible apply wp_ifT); (focus omega)) | ((with_reducible apply wp_ifF); (focus omega)) | ((with_reducible apply wp_if) <;> intro _) | (with_reducible apply wp_bind)) <;> try (simp (disch := omega) only [J_lit, J_add, J_sub, J_mul, J_neg, J_n, jle, jlt, jeq, jnn, jnat, Int.toNat_natCast, bJ_0, bJ_1, bft, gd_T, nar_J, nar_0, nar_1, if_true, if_false, Option.bind_some, gd_t, h.pos, h.ord, h.ck, q4_tir1 h hT hn hs hc, q4_tir2 h hT hc])))
      all_goals (simp only [LR_l, PTb.tir])
      · rw [show T.weight (T.ord k) = 2 by unfold PTb.weight; rw [if_pos (by omega)]]
        split <;> rfl
      · rw [show T.weight (T.ord k) = 1 by unfold PTb.weight; rw [if_neg (by omega), if_pos (by omega)], Int.one_mul]
        split <;> rfl
      · rw [show T.weight (T.ord k) = 0 by unfold PTb.weight; rw [if_neg (by omega), if_neg (by omega)], Int.zero_mul]
        split <;> rfl
    · simp only []
      unfold mX4_tiredOf_b8
      ((try (simp (disch := omega) only [J_lit, J_add, J_sub, J_mul, J_neg, J_n, jle, jlt, jeq, jnn, jnat, Int.toNat_natCast, bJ_0, bJ_1, bft, gd_T, nar_J, nar_0, nar_1, if_true, if_false, Option.bind_some, gd_t, h.pos])); repeat' ((first | ((with_reducible apply wp_gd); (focus (first | exact vp_J (by omega) (by omega) (by omega) | omega))) | (with_reducible apply wp_let) | (with_reducible apply wp_some) | ((with_reducible apply wp_ifT); (focus omega)) | ((with_reducible apply wp_ifF); (focus omega)) | ((with_reducible apply wp_if) <;> intro _) | (with_reducible apply wp_bind)) <;> try (simp (disch := omega) only [J_lit, J_add, J_sub, J_mul, J_neg, J_n, jle, jlt, jeq, jnn, jnat, Int.toNat_natCast, bJ_0, bJ_1, bft, gd_T, nar_J, nar_0, nar_1, if_true, if_false, Option.bind_some, gd_t, h.pos])))
      all_goals rfl
  unfold mX4_tiredOf
  rw [show ((0 : Int32)) = J 0 from J_lit 0, k1]
  rfl
end
end
