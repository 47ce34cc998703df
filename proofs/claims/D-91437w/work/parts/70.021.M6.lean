noncomputable section
set_option linter.unusedVariables false
set_option linter.unusedSimpArgs false
/-! PLAIN 9: what is wrong (twin) -/
section
variable {T : PTb} {FI AI : OhI} {n : Nat} {FR : OhQ} {AN : OhN}
theorem learned_b (hT : PTbOk T) (s o r : Nat) (m : Int) : 0 ≤ T.learned s o r m ∧ T.learned s o r m ≤ 20196 := by
  have h66 := hT.all
  have hL := hT.S.nL
  have a1 : ∀ k, k < T.S.nL → 0 ≤ (if (T.S.le k).day ≤ T.asOf ∧ (T.S.le k).s = s ∧ (T.S.le k).op = o ∧ (T.S.le k).role = r then (T.S.le k).hours else 0) ∧ (if (T.S.le k).day ≤ T.asOf ∧ (T.S.le k).s = s ∧ (T.S.le k).op = o ∧ (T.S.le k).role = r then (T.S.le k).hours else 0) ≤ 99 := by
    intro k hk
    have := hT.S.le k hk
    split <;> omega
  have a2 : ∀ d, d < T.all → 0 ≤ (if (T.ca d).kind ≠ 3 ∧ (T.ca d).op = o ∧ T.cast d r = s ∧ (T.ca d).fin ≤ m then T.long d else 0) ∧ (if (T.ca d).kind ≠ 3 ∧ (T.ca d).op = o ∧ T.cast d r = s ∧ (T.ca d).fin ≤ m then T.long d else 0) ≤ 6 := by
    intro d hd
    have := hT.b hd
    unfold PTb.long
    split <;> omega
  have b1 := sumN_nn fun k hk => (a1 k hk).1
  have b2 := sumN_le fun k hk => (a1 k hk).2
  have b3 := sumN_nn fun k hk => (a2 k hk).1
  have b4 := sumN_le fun k hk => (a2 k hk).2
  unfold PTb.learned
  omega
theorem dayHours_b (hT : PTbOk T) {s : Int} {c : Nat} (hc : c < T.all) : 0 ≤ T.dayHours s c ∧ T.dayHours s c ≤ 396 := chB hT (by have := hT.pos c hc; omega)
theorem nights_b (hT : PTbOk T) {s : Int} {c : Nat} {d : Int} (hc : c < T.all) : 0 ≤ T.nights s c d ∧ T.nights s c d ≤ 66 := by
  have h66 := hT.all
  have := hT.pos c hc
  have h9 : 0 ≤ T.nights s c d ∧ T.nights s c d ≤ ((T.pos c + 1 : Nat) : Int) := sumN01
  omega
theorem tired_b (hT : PTbOk T) {s : Int} {c : Nat} (hc : c < T.all) : 0 ≤ T.tired s c ∧ T.tired s c ≤ 90000 := by
  have h66 := hT.all
  have h1 := hT.pos c hc
  have := tir_b hT (s := s) (c := c) (T.pos c + 1) (by omega)
  unfold PTb.tired
  omega
theorem q4_isWrong (h : MTb T FI AI) (hT : PTbOk T) (hn : 10000 ≤ n) {k s c r : Nat} (hk : 8 ≤ k) (hk2 : k ≤ 15) (hs : s < T.S.nS) (hc : c < T.all) (hr : r < T.nr c) : mX4_isWrong n FI FR AI AN (J k) (J s) (J c) (J r) = some (bJ (T.wr k s c r)) := by
  have h66 := hT.all
  have hb := hT.b hc
  have hS := hT.S.nS
  have c1 := (hT.S.ct s hs).day; have c2 := (hT.S.ct s hs).week; have c3 := (hT.S.ct s hs).voice
  have nd := (hT.o hc).need
  have b1 := learned_b hT s (T.ca c).op r (T.ca c).beg
  have b2 := dayHours_b hT (s := s) hc
  have b3 := nights_b hT (s := s) (d := 7) hc
  have b4 := tired_b hT (s := s) hc
  have e9 : AI 109 0 (T.ca c).op = J (T.o c).need := h.need _ hb.1
  apply wp_eq
  unfold mX4_isWrong PTb.wr
  ((try (simp (disch := omega) only [J_lit, J_add, J_sub, J_mul, J_neg, J_n, jle, jlt, jeq, jnn, jnat, Int.toNat_natCast, bJ_0, bJ_1, bft, gd_T, nar_J, nar_0, nar_1, if_true, if_false, Option.bind_some, gd_t, h.ck, h.co, h.cd, e9, q4_suits h hT hs hc hr, q4_learnedOf h hT hn (by omega : s < 20) hc hr, q4_isAway h hT hn hs, q4_isIll h hT hn (by omega : s < 20), q4_isBusy h hT hn (by omega : s < 20) hc, q4_lacksRest h hT hn hs hc, q4_dayHours h hT hn (by omega : s < 20) hc, q4_nights h hT hn (by omega : s < 20) hc, q4_tiredOf h hT hn (by omega : s < 20) hc, h.day s hs, h.week s hs, h.voiceOf s hs])); repeat' ((first | ((with_reducible apply wp_gd); (focus (first | exact vp_J (by omega) (by omega) (by omega) | omega))) | (with_reducible apply wp_let) | (with_reducible apply wp_some) | ((with_reducible apply wp_ifT); (focus omega)) | ((with_reducible apply wp_ifF); (focus omega)) | ((with_reducible apply wp_if) <;> intro _) | (with_reducible apply wp_bind)) <;> try (simp (disch := omega) only [J_lit, J_add, J_sub, J_mul, J_neg, J_n, jle, jlt, jeq, jnn, jnat, Int.toNat_natCast, bJ_0, bJ_1, bft, gd_T, nar_J, nar_0, nar_1, if_true, if_false, Option.bind_some, gd_t, h.ck, h.co, h.cd, e9, q4_suits h hT hs hc hr, q4_learnedOf h hT hn (by omega : s < 20) hc hr, q4_isAway h hT hn hs, q4_isIll h hT hn (by omega : s < 20), q4_isBusy h hT hn (by omega : s < 20) hc, q4_lacksRest h hT hn hs hc, q4_dayHours h hT hn (by omega : s < 20) hc, q4_nights h hT hn (by omega : s < 20) hc, q4_tiredOf h hT hn (by omega : s < 20) hc, h.day s hs, h.week s hs, h.voiceOf s hs])))
  all_goals (first
    | (rw [if_pos (by omega)]; ((first | refine bJ_e1 ?_ | refine bJ_e0 ?_); (try simp only [decide_eq_true_eq, decide_eq_false_iff_not, beq_iff_eq, beq_eq_false_iff_ne, Bool.and_eq_true, Bool.and_eq_false_iff, Bool.or_eq_true, Bool.or_eq_false_iff, Bool.not_eq_true', Bool.not_eq_false', Bool.not_eq_true, ne_eq] at *); (first | omega | (simp_all; done) | (simp_all; omega))))
    | (rw [if_neg (by omega), if_pos (by omega)]; ((first | refine bJ_e1 ?_ | refine bJ_e0 ?_); (try simp only [decide_eq_true_eq, decide_eq_false_iff_not, beq_iff_eq, beq_eq_false_iff_ne, Bool.and_eq_true, Bool.and_eq_false_iff, Bool.or_eq_true, Bool.or_eq_false_iff, Bool.not_eq_true', Bool.not_eq_false', Bool.not_eq_true, ne_eq] at *); (first | omega | (simp_all; done) | (simp_all; omega))))
    | (rw [if_neg (by omega), if_neg (by omega), if_pos (by omega)]; ((first | refine bJ_e1 ?_ | refine bJ_e0 ?_); (try simp only [decide_eq_true_eq, decide_eq_false_iff_not, beq_iff_eq, beq_eq_false_iff_ne, Bool.and_eq_true, Bool.and_eq_false_iff, Bool.or_eq_true, Bool.or_eq_false_iff, Bool.not_eq_true', Bool.not_eq_false', Bool.not_eq_true, ne_eq] at *); (first | omega | (simp_all; done) | (simp_all; omega))))
    | (rw [if_neg (by omega), if_neg (by omega), if_neg (by omega), if_pos (by omega)]; done)
    | (rw [if_neg (by omega), if_neg (by omega), if_neg (by omega), if_neg (by omega), if_pos (by omega)]; done)
    | (rw [if_neg (by omega), if_neg (by omega), if_neg (by omega), if_neg (by omega), if_neg (by omega), if_pos (by omega)]; ((first | refine bJ_e1 ?_ | refine bJ_e0 ?_); (try simp only [decide_eq_true_eq, decide_eq_false_iff_not, beq_iff_eq, beq_eq_false_iff_ne, Bool.and_eq_true, Bool.and_eq_false_iff, Bool.or_eq_true, Bool.or_eq_false_iff, Bool.not_eq_true', Bool.not_eq_false', Bool.not_eq_true, ne_eq] at *); (first | omega | (simp_all; done) | (simp_all; omega))))
    | (rw [if_neg (by omega), if_neg (by omega), if_neg (by omega), if_neg (by omega), if_neg (by omega), if_neg (by omega), if_pos (by omega)]; ((first | refine bJ_e1 ?_ | refine bJ_e0 ?_); (try simp only [decide_eq_true_eq, decide_eq_false_iff_not, beq_iff_eq, beq_eq_false_iff_ne, Bool.and_eq_true, Bool.and_eq_false_iff, Bool.or_eq_true, Bool.or_eq_false_iff, Bool.not_eq_true', Bool.not_eq_false', Bool.not_eq_true, ne_eq] at *); (first | omega | (simp_all; done) | (simp_all; omega))))
    | (rw [if_neg (by omega), if_neg (by omega), if_neg (by omega), if_neg (by omega), if_neg (by omega), if_neg (by omega), if_neg (by omega)]; ((first | refine bJ_e1 ?_ | refine bJ_e0 ?_); (try simp only [decide_eq_true_eq, decide_eq_false_iff_not, beq_iff_eq, beq_eq_false_iff_ne, Bool.and_eq_true, Bool.and_eq_false_iff, Bool.or_eq_true, Bool.or_eq_false_iff, Bool.not_eq_true', Bool.not_eq_false', Bool.not_eq_true, ne_eq] at *); (first | omega | (simp_all; done) | (simp_all; omega)))))
theorem q4_isCallWrong (h : MTb T FI AI) (hT : PTbOk T) (hn : 10000 ≤ n) {bad : Nat → Bool} (hbad : ∀ c, c < T.all → AI 183 0 c = bJ (bad c)) {k c : Nat} (hk : 1 ≤ k) (hk2 : k ≤ 6) (hc : c < T.all) : mX4_isCallWrong n FI FR AI AN (J k) (J c) = some (bJ (T.wc bad k c)) := by
  have h66 := hT.all
  have hb := hT.b hc
  apply wp_eq
  unfold mX4_isCallWrong PTb.wc
  ((try (simp (disch := omega) only [J_lit, J_add, J_sub, J_mul, J_neg, J_n, jle, jlt, jeq, jnn, jnat, Int.toNat_natCast, bJ_0, bJ_1, bft, gd_T, nar_J, nar_0, nar_1, if_true, if_false, Option.bind_some, gd_t, h.ck, hbad, q4_isFullStage h hT hn hc, q4_isUnready h hT hn hc, q4_lacksPlayers h hT hn hc, q4_playsTwice h hT hn hc, q4_tiresChorus h hT hn hc])); repeat' ((first | ((with_reducible apply wp_gd); (focus (first | exact vp_J (by omega) (by omega) (by omega) | omega))) | (with_reducible apply wp_let) | (with_reducible apply wp_some) | ((with_reducible apply wp_ifT); (focus omega)) | ((with_reducible apply wp_ifF); (focus omega)) | ((with_reducible apply wp_if) <;> intro _) | (with_reducible apply wp_bind)) <;> try (simp (disch := omega) only [J_lit, J_add, J_sub, J_mul, J_neg, J_n, jle, jlt, jeq, jnn, jnat, Int.toNat_natCast, bJ_0, bJ_1, bft, gd_T, nar_J, nar_0, nar_1, if_true, if_false, Option.bind_some, gd_t, h.ck, hbad, q4_isFullStage h hT hn hc, q4_isUnready h hT hn hc, q4_lacksPlayers h hT hn hc, q4_playsTwice h hT hn hc, q4_tiresChorus h hT hn hc])))
  all_goals (first
    | (rw [if_pos (by omega)]; done)
    | (rw [if_neg (by omega), if_pos (by omega)]; ((first | refine bJ_e1 ?_ | refine bJ_e0 ?_); (try simp only [decide_eq_true_eq, decide_eq_false_iff_not, beq_iff_eq, beq_eq_false_iff_ne, Bool.and_eq_true, Bool.and_eq_false_iff, Bool.or_eq_true, Bool.or_eq_false_iff, Bool.not_eq_true', Bool.not_eq_false', Bool.not_eq_true, ne_eq] at *); (first | omega | (simp_all; done) | (simp_all; omega))))
    | (rw [if_neg (by omega), if_neg (by omega), if_pos (by omega)]; done)
    | (rw [if_neg (by omega), if_neg (by omega), if_neg (by omega), if_pos (by omega)]; done)
    | (rw [if_neg (by omega), if_neg (by omega), if_neg (by omega), if_neg (by omega), if_pos (by omega)]; done)
    | (rw [if_neg (by omega), if_neg (by omega), if_neg (by omega), if_neg (by omega), if_neg (by omega)]; done))
end
end
