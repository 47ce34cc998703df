noncomputable section
set_option linter.unusedVariables false
set_option linter.unusedSimpArgs false
/-! PLAIN 54: the house judges a role, 2 -/
section
variable {T : PTb} {Z : PZ} {FI : OhI} {FR GR : OhQ} {AI : OhI} {AR BR : OhQ} {AN : OhN} {n : Nat}
variable {s k r : Nat} {ct : Rf}
theorem sungLt (hT : PTbOk T) {s : Int} : ∀ {k d : Nat}, k ≤ T.all → T.sung s k = some d → d < T.all
  | 0, d, _, h => by simp [PTb.sung] at h
  | k + 1, d, hk, h => by
    simp only [PTb.sung] at h
    split at h
    · cases h; exact hT.ord k (by omega)
    · exact sungLt hT (by omega) h
theorem jr10 (h : HTb T Z FI FR GR AI BR AN) (hT : PTbOk T) (hn : 10000 ≤ n) (q : JR T Z FI FR GR BR AN s k r ct) (b : Bool) :
    mX1_judgeRole_j143 n FI FR GR AI AR BR AN (J k) (J r) (some (Z.s s)) (some (Z.c (T.ord k))) (some ct) (some (Z.c (T.ord k))) (J r) (J 10) (bJ b) = some (blF T s (T.ord k) r (bl AI (T.ord k) r 10 b) [11, 12, 13, 14, 15]) := by
  have hc := hT.ord k q.hk
  have hb := hT.b hc
  have hr := q.hr
  have h20 := hT.S.nS
  have hs := q.hs
  have e0 : mX1_blame FI FR AI AR BR AN (some (Z.c (T.ord k))) (J r) (J 10) (bJ b) = _ := h_bl (AR := AR) (k := 10) h b hc hT.all (by omega : r < 9)
  have h2 := h.bl_ (c := T.ord k) (r := r) (k := 10) (b := b)
  generalize bl AI (T.ord k) r 10 b = A2 at e0 h2
  have e1 := h_isTwice (AR := AR) h2 hT hn (s := s) (by omega) q.hk hr
  have e2 : mX1_blame FI FR A2 AR BR AN (some (Z.c (T.ord k))) (J r) (J 11) (bJ (T.busy s (T.ord k) r)) = _ := h_bl (AR := AR) (k := 11) h2 (T.busy s (T.ord k) r) hc hT.all (by omega : r < 9)
  have h3 := h2.bl_ (c := T.ord k) (r := r) (k := 11) (b := T.busy s (T.ord k) r)
  rw [← blF_c (L := [12, 13, 14, 15]) (show T.wr 11 s (T.ord k) r = T.busy s (T.ord k) r by simp [PTb.wr])]
  generalize bl A2 (T.ord k) r 11 (T.busy s (T.ord k) r) = A3 at e2 h3
  have e3 := h_sung (AR := AR) h3 hT hn q
  have f0 : mX1_judgeRole_j271 n FI FR GR A3 AR BR AN (J r) (some (Z.s s)) (some (Z.c (T.ord k))) (some ct) (some (Z.c (T.ord k))) (J r) (J 12) (J 0) = _ := jr12 (n := n) (AR := AR) h3 hT hn q false
  have f1 : mX1_judgeRole_j271 n FI FR GR A3 AR BR AN (J r) (some (Z.s s)) (some (Z.c (T.ord k))) (some ct) (some (Z.c (T.ord k))) (J r) (J 12) (J 1) = _ := jr12 (n := n) (AR := AR) h3 hT hn q true
  have v := (hT.S.ct s hs).rest
  have eK : oD 7 (some ct) = some ct := oD_of q.c2.kd
  have pk := hT.po k q.hk
  apply wp_eq
  unfold mX1_judgeRole_j143 mX1_judgeRole_j270
  cases hd : T.sung s k with
  | none =>
    rw [hd] at e3
    have w : T.wr 12 s (T.ord k) r = false := by simp [PTb.wr, PTb.noRest, pk, hd]
    ((repeat' (first | ((with_reducible apply wp_let); try dsimp only) | ((with_reducible apply wp_gdJ); (focus (first | ((simp (disch := omega) only [J_lit, J_add, J_sub, J_mul, J_neg, J_n, jle, jlt, jeq, jnn, jnat, Int.toNat_natCast, bJ_0, bJ_1, bft, gd_T, nar_J, nar_0, nar_1, if_true, if_false, Option.bind_some, gd_t, e0, e1, h.sD hs, (h.sg s hs).num, e2, e3, (show (Option.map Z.c (none : Option Nat) = (none : OhR)) = True from eq_true rfl), f0]); rfl) | rfl)); (focus (first | exact True.intro | (first | exact vp_J (by omega) (by omega) (by omega) | omega)))) | ((with_reducible apply wp_ifJT); (focus (first | ((simp (disch := omega) only [J_lit, J_add, J_sub, J_mul, J_neg, J_n, jle, jlt, jeq, jnn, jnat, Int.toNat_natCast, bJ_0, bJ_1, bft, gd_T, nar_J, nar_0, nar_1, if_true, if_false, Option.bind_some, gd_t, decide_eq_false_iff_not, decide_eq_true_eq, e0, e1, h.sD hs, (h.sg s hs).num, e2, e3, (show (Option.map Z.c (none : Option Nat) = (none : OhR)) = True from eq_true rfl), f0]); rfl) | rfl)); (focus (first | exact True.intro | omega))) | ((with_reducible apply wp_ifJF); (focus (first | ((simp (disch := omega) only [J_lit, J_add, J_sub, J_mul, J_neg, J_n, jle, jlt, jeq, jnn, jnat, Int.toNat_natCast, bJ_0, bJ_1, bft, gd_T, nar_J, nar_0, nar_1, if_true, if_false, Option.bind_some, gd_t, decide_eq_false_iff_not, decide_eq_true_eq, e0, e1, h.sD hs, (h.sg s hs).num, e2, e3, (show (Option.map Z.c (none : Option Nat) = (none : OhR)) = True from eq_true rfl), f0]); rfl) | rfl)); (focus (first | exact not_false | omega))) | ((with_reducible apply wp_ifJ); (focus (first | ((simp (disch := omega) only [J_lit, J_add, J_sub, J_mul, J_neg, J_n, jle, jlt, jeq, jnn, jnat, Int.toNat_natCast, bJ_0, bJ_1, bft, gd_T, nar_J, nar_0, nar_1, if_true, if_false, Option.bind_some, gd_t, decide_eq_false_iff_not, decide_eq_true_eq, e0, e1, h.sD hs, (h.sg s hs).num, e2, e3, (show (Option.map Z.c (none : Option Nat) = (none : OhR)) = True from eq_true rfl), f0]); rfl) | rfl)); all_goals intro _) | (with_reducible apply wp_some) | ((with_reducible apply wp_eli); try dsimp only) | ((with_reducible apply wp_elr); try dsimp only) | ((with_reducible apply wp_bindE); (focus ((simp (disch := omega) only [J_lit, J_add, J_sub, J_mul, J_neg, J_n, jle, jlt, jeq, jnn, jnat, Int.toNat_natCast, bJ_0, bJ_1, bft, gd_T, nar_J, nar_0, nar_1, if_true, if_false, Option.bind_some, gd_t, e0, e1, h.sD hs, (h.sg s hs).num, e2, e3, (show (Option.map Z.c (none : Option Nat) = (none : OhR)) = True from eq_true rfl), f0]); rfl)); try dsimp only) | (with_reducible apply wp_bind))); all_goals (try (simp (disch := omega) only [J_lit, J_add, J_sub, J_mul, J_neg, J_n, jle, jlt, jeq, jnn, jnat, Int.toNat_natCast, bJ_0, bJ_1, bft, gd_T, nar_J, nar_0, nar_1, if_true, if_false, Option.bind_some, gd_t, e0, e1, h.sD hs, (h.sg s hs).num, e2, e3, (show (Option.map Z.c (none : Option Nat) = (none : OhR)) = True from eq_true rfl), f0])))
    refine wp_some (blF_c w)
  | some d =>
    rw [hd] at e3
    have hd2 := sungLt hT (by have := q.hk; omega) hd
    have hbd := hT.b hd2
    have w : T.wr 12 s (T.ord k) r = decide ((T.ca d).day ≠ (T.ca (T.ord k)).day ∧ (T.ca (T.ord k)).beg - (T.ca d).fin < (T.S.ct s).rest) := by simp [PTb.wr, PTb.noRest, pk, hd]
    ((repeat' (first | ((with_reducible apply wp_let); try dsimp only) | ((with_reducible apply wp_gdJ); (focus (first | ((simp (disch := omega) only [J_lit, J_add, J_sub, J_mul, J_neg, J_n, jle, jlt, jeq, jnn, jnat, Int.toNat_natCast, bJ_0, bJ_1, bft, gd_T, nar_J, nar_0, nar_1, if_true, if_false, Option.bind_some, gd_t, e0, e1, h.sD hs, (h.sg s hs).num, e2, e3, Option.map_some, (show (some (Z.c d) = (none : OhR)) = False from eq_false (fun q => nomatch q)), h.cD hd2, (h.ca d hd2).day, (h.ca d hd2).fin, h.cD hc, (h.ca _ hc).day, (h.ca _ hc).beg, eK, q.c2.rest, f0, f1]); rfl) | rfl)); (focus (first | exact True.intro | (first | exact vp_J (by omega) (by omega) (by omega) | omega)))) | ((with_reducible apply wp_ifJT); (focus (first | ((simp (disch := omega) only [J_lit, J_add, J_sub, J_mul, J_neg, J_n, jle, jlt, jeq, jnn, jnat, Int.toNat_natCast, bJ_0, bJ_1, bft, gd_T, nar_J, nar_0, nar_1, if_true, if_false, Option.bind_some, gd_t, decide_eq_false_iff_not, decide_eq_true_eq, e0, e1, h.sD hs, (h.sg s hs).num, e2, e3, Option.map_some, (show (some (Z.c d) = (none : OhR)) = False from eq_false (fun q => nomatch q)), h.cD hd2, (h.ca d hd2).day, (h.ca d hd2).fin, h.cD hc, (h.ca _ hc).day, (h.ca _ hc).beg, eK, q.c2.rest, f0, f1]); rfl) | rfl)); (focus (first | exact True.intro | omega))) | ((with_reducible apply wp_ifJF); (focus (first | ((simp (disch := omega) only [J_lit, J_add, J_sub, J_mul, J_neg, J_n, jle, jlt, jeq, jnn, jnat, Int.toNat_natCast, bJ_0, bJ_1, bft, gd_T, nar_J, nar_0, nar_1, if_true, if_false, Option.bind_some, gd_t, decide_eq_false_iff_not, decide_eq_true_eq, e0, e1, h.sD hs, (h.sg s hs).num, e2, e3, Option.map_some, (show (some (Z.c d) = (none : OhR)) = False from eq_false (fun q => nomatch q)), h.cD hd2, (h.ca d hd2).day, (h.ca d hd2).fin, h.cD hc, (h.ca _ hc).day, (h.ca _ hc).beg, eK, q.c2.rest, f0, f1]); rfl) | rfl)); (focus (first | exact not_false | omega))) | ((with_reducible apply wp_ifJ); (focus (first | ((simp (disch := omega) only [J_lit, J_add, J_sub, J_mul, J_neg, J_n, jle, jlt, jeq, jnn, jnat, Int.toNat_natCast, bJ_0, bJ_1, bft, gd_T, nar_J, nar_0, nar_1, if_true, if_false, Option.bind_some, gd_t, decide_eq_false_iff_not, decide_eq_true_eq, e0, e1, h.sD hs, (h.sg s hs).num, e2, e3, Option.map_some, (show (some (Z.c d) = (none : OhR)) = False from eq_false (fun q => nomatch q)), h.cD hd2, (h.ca d hd2).day, (h.ca d hd2).fin, h.cD hc, (h.ca _ hc).day, (h.ca _ hc).beg, eK, q.c2.rest, f0, f1]); rfl) | rfl)); all_goals intro _) | (with_reducible apply wp_some) | ((with_reducible apply wp_eli); try dsimp only) | ((with_reducible apply wp_elr); try dsimp only) | ((with_reducible apply wp_bindE); (focus ((simp (disch := omega) only [J_lit, J_add, J_sub, J_mul, J_neg, J_n, jle, jlt, jeq, jnn, jnat, Int.toNat_natCast, bJ_0, bJ_1, bft, gd_T, nar_J, nar_0, nar_1, if_true, if_false, Option.bind_some, gd_t, e0, e1, h.sD hs, (h.sg s hs).num, e2, e3, Option.map_some, (show (some (Z.c d) = (none : OhR)) = False from eq_false (fun q => nomatch q)), h.cD hd2, (h.ca d hd2).day, (h.ca d hd2).fin, h.cD hc, (h.ca _ hc).day, (h.ca _ hc).beg, eK, q.c2.rest, f0, f1]); rfl)); try dsimp only) | (with_reducible apply wp_bind))); all_goals (try (simp (disch := omega) only [J_lit, J_add, J_sub, J_mul, J_neg, J_n, jle, jlt, jeq, jnn, jnat, Int.toNat_natCast, bJ_0, bJ_1, bft, gd_T, nar_J, nar_0, nar_1, if_true, if_false, Option.bind_some, gd_t, e0, e1, h.sD hs, (h.sg s hs).num, e2, e3, Option.map_some, (show (some (Z.c d) = (none : OhR)) = False from eq_false (fun q => nomatch q)), h.cD hd2, (h.ca d hd2).day, (h.ca d hd2).fin, h.cD hc, (h.ca _ hc).day, (h.ca _ hc).beg, eK, q.c2.rest, f0, f1])))
    · refine wp_some (blF_c (w.trans (by rw [decide_eq_false_iff_not]; omega)))
    · refine wp_some (blF_c (w.trans (by rw [decide_eq_false_iff_not]; omega)))
    · refine wp_some (blF_c (w.trans (by rw [decide_eq_true_eq]; omega)))
theorem jr9 (h : HTb T Z FI FR GR AI BR AN) (hT : PTbOk T) (hn : 10000 ≤ n) (q : JR T Z FI FR GR BR AN s k r ct) (b : Bool) :
    mX1_judgeRole_j100 n FI FR GR AI AR BR AN (J k) (J r) (some (Z.s s)) (some (Z.c (T.ord k))) (some ct) (some (Z.c (T.ord k))) (J r) (J 9) (bJ b) = some (blF T s (T.ord k) r (bl AI (T.ord k) r 9 b) [10, 11, 12, 13, 14, 15]) := by
  have hc := hT.ord k q.hk
  have hb := hT.b hc
  have hr := q.hr
  have h20 := hT.S.nS
  have hs := q.hs
  have e0 : mX1_blame FI FR AI AR BR AN (some (Z.c (T.ord k))) (J r) (J 9) (bJ b) = _ := h_bl (AR := AR) (k := 9) h b hc hT.all (by omega : r < 9)
  have h2 := h.bl_ (c := T.ord k) (r := r) (k := 9) (b := b)
  generalize bl AI (T.ord k) r 9 b = A2 at e0 h2
  have e1 := h_isAway (n := n) (S := T.S) (AR := AR) q.c2 (hT.S.ct s hs) hn (d := (T.ca (T.ord k)).day) (by omega)
  have e2 := h_isIll (n := n) (AR := AR) h2 hT hn (s := s) (d := (T.ca (T.ord k)).day) (by omega) (by omega)
  have f0 : mX1_judgeRole_j143 n FI FR GR A2 AR BR AN (J k) (J r) (some (Z.s s)) (some (Z.c (T.ord k))) (some ct) (some (Z.c (T.ord k))) (J r) (J 10) (J 0) = _ := jr10 (n := n) (AR := AR) h2 hT hn q false
  have f1 : mX1_judgeRole_j143 n FI FR GR A2 AR BR AN (J k) (J r) (some (Z.s s)) (some (Z.c (T.ord k))) (some ct) (some (Z.c (T.ord k))) (J r) (J 10) (J 1) = _ := jr10 (n := n) (AR := AR) h2 hT hn q true
  have eK : oD 7 (some ct) = some ct := oD_of q.c2.kd
  have w : T.wr 10 s (T.ord k) r = ((anyN (T.S.ct s).nl fun j => (T.S.ct s).lf j ≤ (T.ca (T.ord k)).day && (T.ca (T.ord k)).day ≤ (T.S.ct s).lt j) || T.isIll s (T.ca (T.ord k)).day) := by simp [PTb.wr, PSt.away]
  apply wp_eq
  unfold mX1_judgeRole_j100 mX1_judgeRole_j138
  ((repeat' (first | ((with_reducible apply wp_let); try dsimp only) | ((with_reducible apply wp_gdJ); (focus (first | ((simp (disch := omega) only [J_lit, J_add, J_sub, J_mul, J_neg, J_n, jle, jlt, jeq, jnn, jnat, Int.toNat_natCast, bJ_0, bJ_1, bft, gd_T, nar_J, nar_0, nar_1, if_true, if_false, Option.bind_some, gd_t, e0, e1, e2, h.sD hs, (h.sg s hs).num, h.cD hc, (h.ca _ hc).day, eK, f0, f1]); rfl) | rfl)); (focus (first | exact True.intro | (first | exact vp_J (by omega) (by omega) (by omega) | omega)))) | ((with_reducible apply wp_ifJT); (focus (first | ((simp (disch := omega) only [J_lit, J_add, J_sub, J_mul, J_neg, J_n, jle, jlt, jeq, jnn, jnat, Int.toNat_natCast, bJ_0, bJ_1, bft, gd_T, nar_J, nar_0, nar_1, if_true, if_false, Option.bind_some, gd_t, decide_eq_false_iff_not, decide_eq_true_eq, e0, e1, e2, h.sD hs, (h.sg s hs).num, h.cD hc, (h.ca _ hc).day, eK, f0, f1]); rfl) | rfl)); (focus (first | exact True.intro | omega))) | ((with_reducible apply wp_ifJF); (focus (first | ((simp (disch := omega) only [J_lit, J_add, J_sub, J_mul, J_neg, J_n, jle, jlt, jeq, jnn, jnat, Int.toNat_natCast, bJ_0, bJ_1, bft, gd_T, nar_J, nar_0, nar_1, if_true, if_false, Option.bind_some, gd_t, decide_eq_false_iff_not, decide_eq_true_eq, e0, e1, e2, h.sD hs, (h.sg s hs).num, h.cD hc, (h.ca _ hc).day, eK, f0, f1]); rfl) | rfl)); (focus (first | exact not_false | omega))) | ((with_reducible apply wp_ifJ); (focus (first | ((simp (disch := omega) only [J_lit, J_add, J_sub, J_mul, J_neg, J_n, jle, jlt, jeq, jnn, jnat, Int.toNat_natCast, bJ_0, bJ_1, bft, gd_T, nar_J, nar_0, nar_1, if_true, if_false, Option.bind_some, gd_t, decide_eq_false_iff_not, decide_eq_true_eq, e0, e1, e2, h.sD hs, (h.sg s hs).num, h.cD hc, (h.ca _ hc).day, eK, f0, f1]); rfl) | rfl)); all_goals intro _) | (with_reducible apply wp_some) | ((with_reducible apply wp_eli); try dsimp only) | ((with_reducible apply wp_elr); try dsimp only) | ((with_reducible apply wp_bindE); (focus ((simp (disch := omega) only [J_lit, J_add, J_sub, J_mul, J_neg, J_n, jle, jlt, jeq, jnn, jnat, Int.toNat_natCast, bJ_0, bJ_1, bft, gd_T, nar_J, nar_0, nar_1, if_true, if_false, Option.bind_some, gd_t, e0, e1, e2, h.sD hs, (h.sg s hs).num, h.cD hc, (h.ca _ hc).day, eK, f0, f1]); rfl)); try dsimp only) | (with_reducible apply wp_bind))); all_goals (try (simp (disch := omega) only [J_lit, J_add, J_sub, J_mul, J_neg, J_n, jle, jlt, jeq, jnn, jnat, Int.toNat_natCast, bJ_0, bJ_1, bft, gd_T, nar_J, nar_0, nar_1, if_true, if_false, Option.bind_some, gd_t, e0, e1, e2, h.sD hs, (h.sg s hs).num, h.cD hc, (h.ca _ hc).day, eK, f0, f1])))
  all_goals rename_i z
  · refine wp_some (blF_c (w.trans ?_)); simp_all
  · refine wp_some (blF_c (w.trans ?_)); simp_all
  · refine wp_some (blF_c (w.trans ?_)); simp_all
theorem jr8 (h : HTb T Z FI FR GR AI BR AN) (hT : PTbOk T) (hn : 10000 ≤ n) (q : JR T Z FI FR GR BR AN s k r ct) (b : Bool) :
    mX1_judgeRole_j47 n FI FR GR AI AR BR AN (J k) (J r) (some (Z.s s)) (some (Z.c (T.ord k))) (some ct) (some (Z.c (T.ord k))) (J r) (J 8) (bJ b) = some (blF T s (T.ord k) r (bl AI (T.ord k) r 8 b) [9, 10, 11, 12, 13, 14, 15]) := by
  have hc := hT.ord k q.hk
  have hb := hT.b hc
  have hr := q.hr
  have h20 := hT.S.nS
  have hs := q.hs
  have e0 : mX1_blame FI FR AI AR BR AN (some (Z.c (T.ord k))) (J r) (J 8) (bJ b) = _ := h_bl (AR := AR) (k := 8) h b hc hT.all (by omega : r < 9)
  have h2 := h.bl_ (c := T.ord k) (r := r) (k := 8) (b := b)
  generalize bl AI (T.ord k) r 8 b = A2 at e0 h2
  have e1 := h_learnedOf (n := n) (AR := AR) h2 hT hn (s := s) (o := (T.ca (T.ord k)).op) (r := r) (m := (T.ca (T.ord k)).beg) (by omega) (by omega) (by omega) (by omega) (by omega)
  have f0 : mX1_judgeRole_j100 n FI FR GR A2 AR BR AN (J k) (J r) (some (Z.s s)) (some (Z.c (T.ord k))) (some ct) (some (Z.c (T.ord k))) (J r) (J 9) (J 0) = _ := jr9 (n := n) (AR := AR) h2 hT hn q false
  have f1 : mX1_judgeRole_j100 n FI FR GR A2 AR BR AN (J k) (J r) (some (Z.s s)) (some (Z.c (T.ord k))) (some ct) (some (Z.c (T.ord k))) (J r) (J 9) (J 1) = _ := jr9 (n := n) (AR := AR) h2 hT hn q true
  have w : T.wr 9 s (T.ord k) r = decide ((T.ca (T.ord k)).kind = 3 ∧ T.learned s (T.ca (T.ord k)).op r (T.ca (T.ord k)).beg < (T.o (T.ord k)).need) := by simp [PTb.wr]
  have lb := learned_b hT s (T.ca (T.ord k)).op r (T.ca (T.ord k)).beg
  have nd := (hT.o hc).need
  have eN : FI (Z.o (T.ca (T.ord k)).op).1 (Z.o (T.ca (T.ord k)).op).2 3 = J (T.o (T.ord k)).need := (h.op _ hb.1).need
  apply wp_eq
  unfold mX1_judgeRole_j47 mX1_judgeRole_j99
  ((repeat' (first | ((with_reducible apply wp_let); try dsimp only) | ((with_reducible apply wp_gdJ); (focus (first | ((simp (disch := omega) only [J_lit, J_add, J_sub, J_mul, J_neg, J_n, jle, jlt, jeq, jnn, jnat, Int.toNat_natCast, bJ_0, bJ_1, bft, gd_T, nar_J, nar_0, nar_1, if_true, if_false, Option.bind_some, gd_t, e0, e1, h.sD hs, (h.sg s hs).num, h.cD hc, (h.ca _ hc).kind, (h.ca _ hc).beg, (h.ca _ hc).op, oD_of (h.op _ hb.1).kd, eN, f0, f1]); rfl) | rfl)); (focus (first | exact True.intro | (first | exact vp_J (by omega) (by omega) (by omega) | omega)))) | ((with_reducible apply wp_ifJT); (focus (first | ((simp (disch := omega) only [J_lit, J_add, J_sub, J_mul, J_neg, J_n, jle, jlt, jeq, jnn, jnat, Int.toNat_natCast, bJ_0, bJ_1, bft, gd_T, nar_J, nar_0, nar_1, if_true, if_false, Option.bind_some, gd_t, decide_eq_false_iff_not, decide_eq_true_eq, e0, e1, h.sD hs, (h.sg s hs).num, h.cD hc, (h.ca _ hc).kind, (h.ca _ hc).beg, (h.ca _ hc).op, oD_of (h.op _ hb.1).kd, eN, f0, f1]); rfl) | rfl)); (focus (first | exact True.intro | omega))) | ((with_reducible apply wp_ifJF); (focus (first | ((simp (disch := omega) only [J_lit, J_add, J_sub, J_mul, J_neg, J_n, jle, jlt, jeq, jnn, jnat, Int.toNat_natCast, bJ_0, bJ_1, bft, gd_T, nar_J, nar_0, nar_1, if_true, if_false, Option.bind_some, gd_t, decide_eq_false_iff_not, decide_eq_true_eq, e0, e1, h.sD hs, (h.sg s hs).num, h.cD hc, (h.ca _ hc).kind, (h.ca _ hc).beg, (h.ca _ hc).op, oD_of (h.op _ hb.1).kd, eN, f0, f1]); rfl) | rfl)); (focus (first | exact not_false | omega))) | ((with_reducible apply wp_ifJ); (focus (first | ((simp (disch := omega) only [J_lit, J_add, J_sub, J_mul, J_neg, J_n, jle, jlt, jeq, jnn, jnat, Int.toNat_natCast, bJ_0, bJ_1, bft, gd_T, nar_J, nar_0, nar_1, if_true, if_false, Option.bind_some, gd_t, decide_eq_false_iff_not, decide_eq_true_eq, e0, e1, h.sD hs, (h.sg s hs).num, h.cD hc, (h.ca _ hc).kind, (h.ca _ hc).beg, (h.ca _ hc).op, oD_of (h.op _ hb.1).kd, eN, f0, f1]); rfl) | rfl)); all_goals intro _) | (with_reducible apply wp_some) | ((with_reducible apply wp_eli); try dsimp only) | ((with_reducible apply wp_elr); try dsimp only) | ((with_reducible apply wp_bindE); (focus ((simp (disch := omega) only [J_lit, J_add, J_sub, J_mul, J_neg, J_n, jle, jlt, jeq, jnn, jnat, Int.toNat_natCast, bJ_0, bJ_1, bft, gd_T, nar_J, nar_0, nar_1, if_true, if_false, Option.bind_some, gd_t, e0, e1, h.sD hs, (h.sg s hs).num, h.cD hc, (h.ca _ hc).kind, (h.ca _ hc).beg, (h.ca _ hc).op, oD_of (h.op _ hb.1).kd, eN, f0, f1]); rfl)); try dsimp only) | (with_reducible apply wp_bind))); all_goals (try (simp (disch := omega) only [J_lit, J_add, J_sub, J_mul, J_neg, J_n, jle, jlt, jeq, jnn, jnat, Int.toNat_natCast, bJ_0, bJ_1, bft, gd_T, nar_J, nar_0, nar_1, if_true, if_false, Option.bind_some, gd_t, e0, e1, h.sD hs, (h.sg s hs).num, h.cD hc, (h.ca _ hc).kind, (h.ca _ hc).beg, (h.ca _ hc).op, oD_of (h.op _ hb.1).kd, eN, f0, f1])))
  · refine wp_some (blF_c (w.trans ?_)); rw [decide_eq_false_iff_not]; omega
  · refine wp_some (blF_c (w.trans ?_)); rw [decide_eq_true_eq]; omega
  · refine wp_some (blF_c (w.trans ?_)); rw [decide_eq_false_iff_not]; omega
theorem h_judgeRole (h : HTb T Z FI FR GR AI BR AN) (hT : PTbOk T) (hn : 10000 ≤ n) (hs : s < T.S.nS) (hk : k < T.all) (hr : r < T.nr (T.ord k)) :
    mX1_judgeRole n FI FR GR AI AR BR AN (J k) (J r) (some (Z.s s)) = some (blF T s (T.ord k) r AI [8, 9, 10, 11, 12, 13, 14, 15]) := by
  obtain ⟨ct, c1, c2⟩ := (h.sg s hs).ct
  have hc := hT.ord k hk
  have hb := hT.b hc
  have h66 := hT.all
  obtain ⟨x, f, x1, x2, x3⟩ := (h.op _ hb.1).roles
  have hr' : r < (T.S.op (T.ca (T.ord k)).op).nr := hr
  have e4 : oD 17 (FR (Z.o (T.ca (T.ord k)).op).1 (Z.o (T.ca (T.ord k)).op).2 6) = some x := by rw [x1]; exact oD_of x2.1
  have hro := x3 r hr'
  have e5 := h_get (AR := AR) x2 hr' (by have : T.nr (T.ord k) = (T.S.op (T.ca (T.ord k)).op).nr := rfl; omega)
  have e6 := h_suits h hT hs hc hr hro
  have q : JR T Z FI FR GR BR AN s k r ct := ⟨hs, hk, hr, c1, c2⟩
  have f0 : mX1_judgeRole_j47 n FI FR GR AI AR BR AN (J k) (J r) (some (Z.s s)) (some (Z.c (T.ord k))) (some ct) (some (Z.c (T.ord k))) (J r) (J 8) (J 0) = _ := jr8 (n := n) (AR := AR) h hT hn q false
  have f1 : mX1_judgeRole_j47 n FI FR GR AI AR BR AN (J k) (J r) (some (Z.s s)) (some (Z.c (T.ord k))) (some ct) (some (Z.c (T.ord k))) (J r) (J 8) (J 1) = _ := jr8 (n := n) (AR := AR) h hT hn q true
  have w : T.wr 8 s (T.ord k) r = !T.suits s (T.ord k) r := by simp [PTb.wr]
  apply wp_eq
  unfold mX1_judgeRole
  ((repeat' (first | ((with_reducible apply wp_let); try dsimp only) | ((with_reducible apply wp_gdJ); (focus (first | ((simp (disch := omega) only [J_lit, J_add, J_sub, J_mul, J_neg, J_n, jle, jlt, jeq, jnn, jnat, Int.toNat_natCast, bJ_0, bJ_1, bft, gd_T, nar_J, nar_0, nar_1, if_true, if_false, Option.bind_some, gd_t, h.sD hs, h.order, h.cD hc, h.oD' hT hc, e4, e5, oD_of hro.kd, e6, c1, f0, f1]); rfl) | rfl)); (focus (first | exact True.intro | (first | exact vp_J (by omega) (by omega) (by omega) | omega)))) | ((with_reducible apply wp_ifJT); (focus (first | ((simp (disch := omega) only [J_lit, J_add, J_sub, J_mul, J_neg, J_n, jle, jlt, jeq, jnn, jnat, Int.toNat_natCast, bJ_0, bJ_1, bft, gd_T, nar_J, nar_0, nar_1, if_true, if_false, Option.bind_some, gd_t, decide_eq_false_iff_not, decide_eq_true_eq, h.sD hs, h.order, h.cD hc, h.oD' hT hc, e4, e5, oD_of hro.kd, e6, c1, f0, f1]); rfl) | rfl)); (focus (first | exact True.intro | omega))) | ((with_reducible apply wp_ifJF); (focus (first | ((simp (disch := omega) only [J_lit, J_add, J_sub, J_mul, J_neg, J_n, jle, jlt, jeq, jnn, jnat, Int.toNat_natCast, bJ_0, bJ_1, bft, gd_T, nar_J, nar_0, nar_1, if_true, if_false, Option.bind_some, gd_t, decide_eq_false_iff_not, decide_eq_true_eq, h.sD hs, h.order, h.cD hc, h.oD' hT hc, e4, e5, oD_of hro.kd, e6, c1, f0, f1]); rfl) | rfl)); (focus (first | exact not_false | omega))) | ((with_reducible apply wp_ifJ); (focus (first | ((simp (disch := omega) only [J_lit, J_add, J_sub, J_mul, J_neg, J_n, jle, jlt, jeq, jnn, jnat, Int.toNat_natCast, bJ_0, bJ_1, bft, gd_T, nar_J, nar_0, nar_1, if_true, if_false, Option.bind_some, gd_t, decide_eq_false_iff_not, decide_eq_true_eq, h.sD hs, h.order, h.cD hc, h.oD' hT hc, e4, e5, oD_of hro.kd, e6, c1, f0, f1]); rfl) | rfl)); all_goals intro _) | (with_reducible apply wp_some) | ((with_reducible apply wp_eli); try dsimp only) | ((with_reducible apply wp_elr); try dsimp only) | ((with_reducible apply wp_bindE); (focus ((simp (disch := omega) only [J_lit, J_add, J_sub, J_mul, J_neg, J_n, jle, jlt, jeq, jnn, jnat, Int.toNat_natCast, bJ_0, bJ_1, bft, gd_T, nar_J, nar_0, nar_1, if_true, if_false, Option.bind_some, gd_t, h.sD hs, h.order, h.cD hc, h.oD' hT hc, e4, e5, oD_of hro.kd, e6, c1, f0, f1]); rfl)); try dsimp only) | (with_reducible apply wp_bind))); all_goals (try (simp (disch := omega) only [J_lit, J_add, J_sub, J_mul, J_neg, J_n, jle, jlt, jeq, jnn, jnat, Int.toNat_natCast, bJ_0, bJ_1, bft, gd_T, nar_J, nar_0, nar_1, if_true, if_false, Option.bind_some, gd_t, h.sD hs, h.order, h.cD hc, h.oD' hT hc, e4, e5, oD_of hro.kd, e6, c1, f0, f1])))
  all_goals rename_i z
  · refine wp_some (blF_c (w.trans ?_)); rw [z]; rfl
  · refine wp_some (blF_c (w.trans ?_)); rw [Bool.not_eq_false] at z; rw [z]; rfl
end
end
