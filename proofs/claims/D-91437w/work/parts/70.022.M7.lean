noncomputable section
set_option linter.unusedVariables false
set_option linter.unusedSimpArgs false
/-! PLAIN 10: fees (twin) -/
section
variable {T : PTb} {FI AI : OhI} {n : Nat} {FR : OhQ} {AN : OhN}
theorem q4_asks (h : MTb T FI AI) (hT : PTbOk T) (hn : 10000 ≤ n) {s c a : Nat} (hs : s < T.S.nS) (hc : c < T.all) (ha : a < 7) : mX4_asks n FR AI AN (J s) (J c) (J a) (bJ (T.isCast s c)) = some (bJ ((T.ask s c).is a)) := by
  have h66 := hT.all
  have hb := hT.b hc
  have hS := hT.S.nS
  apply wp_eq
  unfold mX4_asks PAsk.is PTb.ask
  simp only [PAsk.g_kind, PAsk.g_hours, PAsk.g_nth, PAsk.g_over, PAsk.g_late, PAsk.g_cover, PAsk.g_instead]
  ((try (simp (disch := omega) only [J_lit, J_add, J_sub, J_mul, J_neg, J_n, jle, jlt, jeq, jnn, jnat, Int.toNat_natCast, bJ_0, bJ_1, bft, gd_T, nar_J, nar_0, nar_1, if_true, if_false, Option.bind_some, gd_t, h.ck, h.cd, h.cf, q4_isCover h hT hn, q4_cameInstead h hT hn])); repeat' ((first | ((with_reducible apply wp_gd); (focus (first | exact vp_J (by omega) (by omega) (by omega) | omega))) | (with_reducible apply wp_let) | (with_reducible apply wp_some) | ((with_reducible apply wp_ifT); (focus omega)) | ((with_reducible apply wp_ifF); (focus omega)) | ((with_reducible apply wp_if) <;> intro _) | (with_reducible apply wp_bind)) <;> try (simp (disch := omega) only [J_lit, J_add, J_sub, J_mul, J_neg, J_n, jle, jlt, jeq, jnn, jnat, Int.toNat_natCast, bJ_0, bJ_1, bft, gd_T, nar_J, nar_0, nar_1, if_true, if_false, Option.bind_some, gd_t, h.ck, h.cd, h.cf, q4_isCover h hT hn, q4_cameInstead h hT hn])))
  all_goals (first
    | (rw [if_pos (by omega)]; ((first | refine bJ_e1 ?_ | refine bJ_e0 ?_); (try simp only [decide_eq_true_eq, decide_eq_false_iff_not, beq_iff_eq, beq_eq_false_iff_ne, Bool.and_eq_true, Bool.and_eq_false_iff, Bool.or_eq_true, Bool.or_eq_false_iff, Bool.not_eq_true', Bool.not_eq_false', Bool.not_eq_true, ne_eq] at *); (first | omega | (simp_all; done) | (simp_all; omega))))
    | (rw [if_neg (by omega), if_pos (by omega)]; ((first | refine bJ_e1 ?_ | refine bJ_e0 ?_); (try simp only [decide_eq_true_eq, decide_eq_false_iff_not, beq_iff_eq, beq_eq_false_iff_ne, Bool.and_eq_true, Bool.and_eq_false_iff, Bool.or_eq_true, Bool.or_eq_false_iff, Bool.not_eq_true', Bool.not_eq_false', Bool.not_eq_true, ne_eq] at *); (first | omega | (simp_all; done) | (simp_all; omega))))
    | (rw [if_neg (by omega), if_neg (by omega), if_pos (by omega)]; first | done | ((first | refine bJ_e1 ?_ | refine bJ_e0 ?_); (try simp only [decide_eq_true_eq, decide_eq_false_iff_not, beq_iff_eq, beq_eq_false_iff_ne, Bool.and_eq_true, Bool.and_eq_false_iff, Bool.or_eq_true, Bool.or_eq_false_iff, Bool.not_eq_true', Bool.not_eq_false', Bool.not_eq_true, ne_eq] at *); (first | omega | (simp_all; done) | (simp_all; omega))))
    | (rw [if_neg (by omega), if_neg (by omega), if_neg (by omega)]; ((first | refine bJ_e1 ?_ | refine bJ_e0 ?_); (try simp only [decide_eq_true_eq, decide_eq_false_iff_not, beq_iff_eq, beq_eq_false_iff_ne, Bool.and_eq_true, Bool.and_eq_false_iff, Bool.or_eq_true, Bool.or_eq_false_iff, Bool.not_eq_true', Bool.not_eq_false', Bool.not_eq_true, ne_eq] at *); (first | omega | (simp_all; done) | (simp_all; omega)))))
theorem q4_numberOf (h : MTb T FI AI) (hT : PTbOk T) (hn : 10000 ≤ n) {s c a : Nat} (hs : s < T.S.nS) (hc : c < T.all) (h7 : 7 ≤ a) (h10 : a < 10) : mX4_numberOf n FR AI AN (J s) (J c) (J a) (bJ (T.isCast s c)) = some (J ((T.ask s c).num a)) := by
  have h66 := hT.all
  have hb := hT.b hc
  have hS := hT.S.nS
  have c1 := (hT.S.ct s hs).day
  have b2 := dayHours_b hT (s := s) hc
  apply wp_eq
  unfold mX4_numberOf PAsk.num PTb.ask
  simp only [PAsk.g_kind, PAsk.g_hours, PAsk.g_nth, PAsk.g_over, PAsk.g_late, PAsk.g_cover, PAsk.g_instead]
  ((try (simp (disch := omega) only [J_lit, J_add, J_sub, J_mul, J_neg, J_n, jle, jlt, jeq, jnn, jnat, Int.toNat_natCast, bJ_0, bJ_1, bft, gd_T, nar_J, nar_0, nar_1, if_true, if_false, Option.bind_some, gd_t, h.ck, q4_longOf h hT hc, q4_nights h hT hn (by omega : s < 20) hc, q4_dayHours h hT hn (by omega : s < 20) hc, h.day s hs])); repeat' ((first | ((with_reducible apply wp_gd); (focus (first | exact vp_J (by omega) (by omega) (by omega) | omega))) | (with_reducible apply wp_let) | (with_reducible apply wp_some) | ((with_reducible apply wp_ifT); (focus omega)) | ((with_reducible apply wp_ifF); (focus omega)) | ((with_reducible apply wp_if) <;> intro _) | (with_reducible apply wp_bind)) <;> try (simp (disch := omega) only [J_lit, J_add, J_sub, J_mul, J_neg, J_n, jle, jlt, jeq, jnn, jnat, Int.toNat_natCast, bJ_0, bJ_1, bft, gd_T, nar_J, nar_0, nar_1, if_true, if_false, Option.bind_some, gd_t, h.ck, q4_longOf h hT hc, q4_nights h hT hn (by omega : s < 20) hc, q4_dayHours h hT hn (by omega : s < 20) hc, h.day s hs])))
  all_goals ((first | apply congrArg J | skip); (repeat' split) <;> first | rfl | omega | (exfalso; omega) | (simp_all; done) | (simp_all; omega))
end
end
