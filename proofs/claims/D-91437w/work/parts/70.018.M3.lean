noncomputable section
set_option linter.unusedVariables false
set_option linter.unusedSimpArgs false
/-! PLAIN 6: what the twin's questions answer, 3 -/
section
variable {T : PTb} {FI AI : OhI} {n : Nat} {FR : OhQ} {AN : OhN}
theorem PTb.fe_b (hT : PTbOk T) (o : Nat) (kd frm : Int) : ∀ k, k ≤ T.all → 0 ≤ T.fe o kd frm k ∧ T.fe o kd frm k ≤ 100000
  | 0, _ => by simp [PTb.fe]
  | k + 1, hk => by
    have ih := PTb.fe_b hT o kd frm k (by omega)
    have hb := hT.b (c := k) (by omega)
    simp only [PTb.fe]
    split <;> omega
theorem q4_firstEnd (h : MTb T FI AI) (hT : PTbOk T) (hn : 10000 ≤ n) {o : Nat} (ho : o < 9) {kd frm : Int} (h1 : 0 ≤ kd) (h2 : kd ≤ 3) (h3 : 0 ≤ frm) (h4 : frm ≤ 100000) :
    mX4_firstEnd n FI FR AI AN (J o) (J kd) (J frm) = some (J (T.fe o kd frm T.all)) := by
  have h66 := hT.all
  have k1 : lpF (fun v => mX4_firstEnd_b8 n FI FR AI AN (J o) (J kd) (J frm) v.1 v.2) n (J 100000, J 0) = some (J (T.fe o kd frm T.all)) := by
    refine wp_fold (fun k => (J (T.fe o kd frm k), J k)) _ T.all ?_ ?_ (by omega : T.all < n) rfl
    · intro k hk
      have hb2 := hT.b hk
      have hf := T.fe_b hT o kd frm k (by omega)
      simp only []
      unfold mX4_firstEnd_b8
      ((try (simp (disch := omega) only [J_lit, J_add, J_sub, J_mul, J_neg, J_n, jle, jlt, jeq, jnn, jnat, Int.toNat_natCast, bJ_0, bJ_1, bft, gd_T, nar_J, nar_0, nar_1, if_true, if_false, Option.bind_some, gd_t, h.all, h.co, h.ck, h.cb, h.cf])); repeat' ((first | ((with_reducible apply wp_gd); (focus (first | exact vp_J (by omega) (by omega) (by omega) | omega))) | (with_reducible apply wp_let) | (with_reducible apply wp_some) | ((with_reducible apply wp_ifT); (focus omega)) | ((with_reducible apply wp_ifF); (focus omega)) | ((with_reducible apply wp_if) <;> intro _) | (with_reducible apply wp_bind)) <;> try (simp (disch := omega) only [J_lit, J_add, J_sub, J_mul, J_neg, J_n, jle, jlt, jeq, jnn, jnat, Int.toNat_natCast, bJ_0, bJ_1, bft, gd_T, nar_J, nar_0, nar_1, if_true, if_false, Option.bind_some, gd_t, h.all, h.co, h.ck, h.cb, h.cf])))
      all_goals (simp only [LR_l, Prod.mk.injEq, PTb.fe])
      all_goals (refine ⟨congrArg J ?_, congrArg J (by omega)⟩)
      all_goals (first | (rw [if_pos (by omega)]; done) | rw [if_neg (by omega)])
    · simp only []
      unfold mX4_firstEnd_b8
      ((try (simp (disch := omega) only [J_lit, J_add, J_sub, J_mul, J_neg, J_n, jle, jlt, jeq, jnn, jnat, Int.toNat_natCast, bJ_0, bJ_1, bft, gd_T, nar_J, nar_0, nar_1, if_true, if_false, Option.bind_some, gd_t, h.all])); repeat' ((first | ((with_reducible apply wp_gd); (focus (first | exact vp_J (by omega) (by omega) (by omega) | omega))) | (with_reducible apply wp_let) | (with_reducible apply wp_some) | ((with_reducible apply wp_ifT); (focus omega)) | ((with_reducible apply wp_ifF); (focus omega)) | ((with_reducible apply wp_if) <;> intro _) | (with_reducible apply wp_bind)) <;> try (simp (disch := omega) only [J_lit, J_add, J_sub, J_mul, J_neg, J_n, jle, jlt, jeq, jnn, jnat, Int.toNat_natCast, bJ_0, bJ_1, bft, gd_T, nar_J, nar_0, nar_1, if_true, if_false, Option.bind_some, gd_t, h.all])))
      all_goals ((try simp only [LR_l, LR_r, Prod.mk.injEq, Sum.inl.injEq, Sum.inr.injEq, reduceCtorEq, and_true, true_and, and_false, false_and, or_false, false_or, decide_eq_true_eq, decide_eq_false_iff_not, beq_iff_eq, beq_eq_false_iff_ne, Bool.and_eq_true, Bool.and_eq_false_iff, Bool.or_eq_true, Bool.not_eq_true', Bool.not_eq_false', ne_eq, bJ_0, bJ_t, bJ_f]) <;> (first | omega | (simp_all; done) | (simp_all; omega) | (simp_all [bJ]; done) | (refine ⟨?_, ?_⟩ <;> (first | omega | (simp_all; done) | (simp_all; omega)))))
  unfold mX4_firstEnd
  rw [show ((0 : Int32)) = J 0 from J_lit 0, show ((100000 : Int32)) = J 100000 from J_lit 100000, k1]
  rfl
theorem q4_isUnready (h : MTb T FI AI) (hT : PTbOk T) (hn : 10000 ≤ n) {c : Nat} (hc : c < T.all) : mX4_isUnready n FI FR AI AN (J c) = some (bJ (T.unready c)) := by
  have h66 := hT.all
  have hb := hT.b hc
  have b1 := T.fe_b hT (T.ca c).op 0 0 T.all (by omega)
  have b2 := T.fe_b hT (T.ca c).op 1 (T.fe (T.ca c).op 0 0 T.all) T.all (by omega)
  have b3 := T.fe_b hT (T.ca c).op 2 (T.fe (T.ca c).op 1 (T.fe (T.ca c).op 0 0 T.all) T.all) T.all (by omega)
  apply wp_eq
  unfold mX4_isUnready
  ((try (simp (disch := omega) only [J_lit, J_add, J_sub, J_mul, J_neg, J_n, jle, jlt, jeq, jnn, jnat, Int.toNat_natCast, bJ_0, bJ_1, bft, gd_T, nar_J, nar_0, nar_1, if_true, if_false, Option.bind_some, gd_t, h.ck, h.co, h.cb, q4_firstEnd h hT hn])); repeat' ((first | ((with_reducible apply wp_gd); (focus (first | exact vp_J (by omega) (by omega) (by omega) | omega))) | (with_reducible apply wp_let) | (with_reducible apply wp_some) | ((with_reducible apply wp_ifT); (focus omega)) | ((with_reducible apply wp_ifF); (focus omega)) | ((with_reducible apply wp_if) <;> intro _) | (with_reducible apply wp_bind)) <;> try (simp (disch := omega) only [J_lit, J_add, J_sub, J_mul, J_neg, J_n, jle, jlt, jeq, jnn, jnat, Int.toNat_natCast, bJ_0, bJ_1, bft, gd_T, nar_J, nar_0, nar_1, if_true, if_false, Option.bind_some, gd_t, h.ck, h.co, h.cb, q4_firstEnd h hT hn])))
  all_goals (unfold PTb.unready; ((first | refine bJ_e1 ?_ | refine bJ_e0 ?_); (try simp only [decide_eq_true_eq, decide_eq_false_iff_not, beq_iff_eq, beq_eq_false_iff_ne, Bool.and_eq_true, Bool.and_eq_false_iff, Bool.or_eq_true, Bool.or_eq_false_iff, Bool.not_eq_true', Bool.not_eq_false', Bool.not_eq_true, ne_eq] at *); (first | omega | (simp_all; done) | (simp_all; omega))))
theorem q4_suits (h : MTb T FI AI) (hT : PTbOk T) {s c r : Nat} (hs : s < T.S.nS) (hc : c < T.all) (hr : r < T.nr c) : mX4_suits FR AI AN (J s) (J (T.ca c).op) (J r) = some (bJ (T.suits s c r)) := by
  have h66 := hT.all
  have hb := hT.b hc
  have hS := hT.S.nS
  have q1 := (hT.S.sg s hs).size
  have q2 := (hT.o hc).size r hr
  simp only [PTb.o] at q2
  apply wp_eq
  unfold mX4_suits mX4_apart
  ((try (simp (disch := omega) only [J_lit, J_add, J_sub, J_mul, J_neg, J_n, jle, jlt, jeq, jnn, jnat, Int.toNat_natCast, bJ_0, bJ_1, bft, gd_T, nar_J, nar_0, nar_1, if_true, if_false, Option.bind_some, gd_t, h.voices, h.tongues, h.sizeOf, h.voice _ r hb.1 hr, h.tongue _ r hb.1 hr, h.size _ r hb.1 hr])); repeat' ((first | ((with_reducible apply wp_gd); (focus (first | exact vp_J (by omega) (by omega) (by omega) | omega))) | (with_reducible apply wp_let) | (with_reducible apply wp_some) | ((with_reducible apply wp_ifT); (focus omega)) | ((with_reducible apply wp_ifF); (focus omega)) | ((with_reducible apply wp_if) <;> intro _) | (with_reducible apply wp_bind)) <;> try (simp (disch := omega) only [J_lit, J_add, J_sub, J_mul, J_neg, J_n, jle, jlt, jeq, jnn, jnat, Int.toNat_natCast, bJ_0, bJ_1, bft, gd_T, nar_J, nar_0, nar_1, if_true, if_false, Option.bind_some, gd_t, h.voices, h.tongues, h.sizeOf, h.voice _ r hb.1 hr, h.tongue _ r hb.1 hr, h.size _ r hb.1 hr])))
  all_goals (unfold PTb.suits bitJ PTb.o at *; ((first | refine bJ_e1 ?_ | refine bJ_e0 ?_); (try simp only [decide_eq_true_eq, decide_eq_false_iff_not, beq_iff_eq, beq_eq_false_iff_ne, Bool.and_eq_true, Bool.and_eq_false_iff, Bool.or_eq_true, Bool.or_eq_false_iff, Bool.not_eq_true', Bool.not_eq_false', Bool.not_eq_true, ne_eq] at *); (first | omega | (simp_all; done) | (simp_all; omega))))
theorem q4_isAway (h : MTb T FI AI) (hT : PTbOk T) (hn : 10000 ≤ n) {s : Nat} (hs : s < T.S.nS) {d : Int} (hd : 0 ≤ d ∧ d ≤ 29) : mX4_isAway n FR AI AN (J s) (J d) = some (bJ (T.S.away s d)) := by
  have hS := hT.S.nS
  have hl := (hT.S.ct s hs).nl
  have key : lpF (fun v => mX4_isAway_b2 n FR AI AN (J s) (J d) v) n (J 0) = some (if T.S.away s d then .inr () else .inl ()) := by
    refine wp_any _ _ ?_ ?_ (by omega : (T.S.ct s).nl < n)
    · intro k hk
      have b1 := (hT.S.ct s hs).lf k hk
      have b2 := (hT.S.ct s hs).lt k hk
      unfold mX4_isAway_b2
      ((try (simp (disch := omega) only [J_lit, J_add, J_sub, J_mul, J_neg, J_n, jle, jlt, jeq, jnn, jnat, Int.toNat_natCast, bJ_0, bJ_1, bft, gd_T, nar_J, nar_0, nar_1, if_true, if_false, Option.bind_some, gd_t, h.nl, h.lf s k hs hk, h.lt s k hs hk, q4_isIn])); repeat' ((first | ((with_reducible apply wp_gd); (focus (first | exact vp_J (by omega) (by omega) (by omega) | omega))) | (with_reducible apply wp_let) | (with_reducible apply wp_some) | ((with_reducible apply wp_ifT); (focus omega)) | ((with_reducible apply wp_ifF); (focus omega)) | ((with_reducible apply wp_if) <;> intro _) | (with_reducible apply wp_bind)) <;> try (simp (disch := omega) only [J_lit, J_add, J_sub, J_mul, J_neg, J_n, jle, jlt, jeq, jnn, jnat, Int.toNat_natCast, bJ_0, bJ_1, bft, gd_T, nar_J, nar_0, nar_1, if_true, if_false, Option.bind_some, gd_t, h.nl, h.lf s k hs hk, h.lt s k hs hk, q4_isIn])))
      all_goals ((try simp only [LR_l, LR_r, Prod.mk.injEq, Sum.inl.injEq, Sum.inr.injEq, reduceCtorEq, and_true, true_and, and_false, false_and, or_false, false_or, decide_eq_true_eq, decide_eq_false_iff_not, beq_iff_eq, beq_eq_false_iff_ne, Bool.and_eq_true, Bool.and_eq_false_iff, Bool.or_eq_true, Bool.not_eq_true', Bool.not_eq_false', ne_eq, bJ_0, bJ_t, bJ_f]) <;> (first | omega | (simp_all; done) | (simp_all; omega) | (simp_all [bJ]; done) | (refine ⟨?_, ?_⟩ <;> (first | omega | (simp_all; done) | (simp_all; omega)))))
    · unfold mX4_isAway_b2
      ((try (simp (disch := omega) only [J_lit, J_add, J_sub, J_mul, J_neg, J_n, jle, jlt, jeq, jnn, jnat, Int.toNat_natCast, bJ_0, bJ_1, bft, gd_T, nar_J, nar_0, nar_1, if_true, if_false, Option.bind_some, gd_t, h.nl])); repeat' ((first | ((with_reducible apply wp_gd); (focus (first | exact vp_J (by omega) (by omega) (by omega) | omega))) | (with_reducible apply wp_let) | (with_reducible apply wp_some) | ((with_reducible apply wp_ifT); (focus omega)) | ((with_reducible apply wp_ifF); (focus omega)) | ((with_reducible apply wp_if) <;> intro _) | (with_reducible apply wp_bind)) <;> try (simp (disch := omega) only [J_lit, J_add, J_sub, J_mul, J_neg, J_n, jle, jlt, jeq, jnn, jnat, Int.toNat_natCast, bJ_0, bJ_1, bft, gd_T, nar_J, nar_0, nar_1, if_true, if_false, Option.bind_some, gd_t, h.nl])))
      all_goals ((try simp only [LR_l, LR_r, Prod.mk.injEq, Sum.inl.injEq, Sum.inr.injEq, reduceCtorEq, and_true, true_and, and_false, false_and, or_false, false_or, decide_eq_true_eq, decide_eq_false_iff_not, beq_iff_eq, beq_eq_false_iff_ne, Bool.and_eq_true, Bool.and_eq_false_iff, Bool.or_eq_true, Bool.not_eq_true', Bool.not_eq_false', ne_eq, bJ_0, bJ_t, bJ_f]) <;> (first | omega | (simp_all; done) | (simp_all; omega) | (simp_all [bJ]; done) | (refine ⟨?_, ?_⟩ <;> (first | omega | (simp_all; done) | (simp_all; omega)))))
  unfold mX4_isAway
  (simp (disch := omega) only [J_lit, J_add, J_sub, J_mul, J_neg, J_n, jle, jlt, jeq, jnn, jnat, Int.toNat_natCast, bJ_0, bJ_1, bft, gd_T, nar_J, nar_0, nar_1, if_true, if_false, Option.bind_some, gd_t, key])
  cases T.S.away s d <;> rfl
theorem q4_isBusy (h : MTb T FI AI) (hT : PTbOk T) (hn : 10000 ≤ n) {s c r : Nat} (hs : s < 20) (hc : c < T.all) (hr : r ≤ T.nr c) : mX4_isBusy n FI FR AI AN (J s) (J c) (J r) = some (bJ (T.busy s c r)) := by
  have h66 := hT.all
  have hb := hT.b hc
  have k1 : lpF (fun v => mX4_isBusy_b3 n FI FR AI AN (J s) (J c) (J r) v) n (J 0) = some (if anyN r (fun q => T.cast c q == s) then .inr () else .inl ()) := by
    refine wp_any _ _ ?_ ?_ (by omega : r < n)
    · intro k hk
      have hb2 := hT.cast c k hc (by omega)
      have hb3 := hT.S.nS
      unfold mX4_isBusy_b3
      ((try (simp (disch := omega) only [J_lit, J_add, J_sub, J_mul, J_neg, J_n, jle, jlt, jeq, jnn, jnat, Int.toNat_natCast, bJ_0, bJ_1, bft, gd_T, nar_J, nar_0, nar_1, if_true, if_false, Option.bind_some, gd_t, h.cast])); repeat' ((first | ((with_reducible apply wp_gd); (focus (first | exact vp_J (by omega) (by omega) (by omega) | omega))) | (with_reducible apply wp_let) | (with_reducible apply wp_some) | ((with_reducible apply wp_ifT); (focus omega)) | ((with_reducible apply wp_ifF); (focus omega)) | ((with_reducible apply wp_if) <;> intro _) | (with_reducible apply wp_bind)) <;> try (simp (disch := omega) only [J_lit, J_add, J_sub, J_mul, J_neg, J_n, jle, jlt, jeq, jnn, jnat, Int.toNat_natCast, bJ_0, bJ_1, bft, gd_T, nar_J, nar_0, nar_1, if_true, if_false, Option.bind_some, gd_t, h.cast])))
      all_goals ((try simp only [LR_l, LR_r, Prod.mk.injEq, Sum.inl.injEq, Sum.inr.injEq, reduceCtorEq, and_true, true_and, and_false, false_and, or_false, false_or, decide_eq_true_eq, decide_eq_false_iff_not, beq_iff_eq, beq_eq_false_iff_ne, Bool.and_eq_true, Bool.and_eq_false_iff, Bool.or_eq_true, Bool.not_eq_true', Bool.not_eq_false', ne_eq, bJ_0, bJ_t, bJ_f]) <;> (first | omega | (simp_all; done) | (simp_all; omega) | (simp_all [bJ]; done) | (refine ⟨?_, ?_⟩ <;> (first | omega | (simp_all; done) | (simp_all; omega)))))
    · unfold mX4_isBusy_b3
      ((try (simp (disch := omega) only [J_lit, J_add, J_sub, J_mul, J_neg, J_n, jle, jlt, jeq, jnn, jnat, Int.toNat_natCast, bJ_0, bJ_1, bft, gd_T, nar_J, nar_0, nar_1, if_true, if_false, Option.bind_some, gd_t])); repeat' ((first | ((with_reducible apply wp_gd); (focus (first | exact vp_J (by omega) (by omega) (by omega) | omega))) | (with_reducible apply wp_let) | (with_reducible apply wp_some) | ((with_reducible apply wp_ifT); (focus omega)) | ((with_reducible apply wp_ifF); (focus omega)) | ((with_reducible apply wp_if) <;> intro _) | (with_reducible apply wp_bind)) <;> try (simp (disch := omega) only [J_lit, J_add, J_sub, J_mul, J_neg, J_n, jle, jlt, jeq, jnn, jnat, Int.toNat_natCast, bJ_0, bJ_1, bft, gd_T, nar_J, nar_0, nar_1, if_true, if_false, Option.bind_some, gd_t])))
      all_goals ((try simp only [LR_l, LR_r, Prod.mk.injEq, Sum.inl.injEq, Sum.inr.injEq, reduceCtorEq, and_true, true_and, and_false, false_and, or_false, false_or, decide_eq_true_eq, decide_eq_false_iff_not, beq_iff_eq, beq_eq_false_iff_ne, Bool.and_eq_true, Bool.and_eq_false_iff, Bool.or_eq_true, Bool.not_eq_true', Bool.not_eq_false', ne_eq, bJ_0, bJ_t, bJ_f]) <;> (first | omega | (simp_all; done) | (simp_all; omega) | (simp_all [bJ]; done) | (refine ⟨?_, ?_⟩ <;> (first | omega | (simp_all; done) | (simp_all; omega)))))
  have k2 : lpF (fun v => mX4_isBusy_b36 n FI FR AI AN (J s) (J c) v) n (J 0) = some (if anyN T.all (fun d => T.isOn d c && T.isCast s d) then .inr () else .inl ()) := by
    refine wp_any _ _ ?_ ?_ (by omega : T.all < n)
    · intro k hk
      unfold mX4_isBusy_b36
      ((try (simp (disch := omega) only [J_lit, J_add, J_sub, J_mul, J_neg, J_n, jle, jlt, jeq, jnn, jnat, Int.toNat_natCast, bJ_0, bJ_1, bft, gd_T, nar_J, nar_0, nar_1, if_true, if_false, Option.bind_some, gd_t, h.all, q4_isOn h hT, q4_isIn2 h hT])); repeat' ((first | ((with_reducible apply wp_gd); (focus (first | exact vp_J (by omega) (by omega) (by omega) | omega))) | (with_reducible apply wp_let) | (with_reducible apply wp_some) | ((with_reducible apply wp_ifT); (focus omega)) | ((with_reducible apply wp_ifF); (focus omega)) | ((with_reducible apply wp_if) <;> intro _) | (with_reducible apply wp_bind)) <;> try (simp (disch := omega) only [J_lit, J_add, J_sub, J_mul, J_neg, J_n, jle, jlt, jeq, jnn, jnat, Int.toNat_natCast, bJ_0, bJ_1, bft, gd_T, nar_J, nar_0, nar_1, if_true, if_false, Option.bind_some, gd_t, h.all, q4_isOn h hT, q4_isIn2 h hT])))
      all_goals ((try simp only [LR_l, LR_r, Prod.mk.injEq, Sum.inl.injEq, Sum.inr.injEq, reduceCtorEq, and_true, true_and, and_false, false_and, or_false, false_or, decide_eq_true_eq, decide_eq_false_iff_not, beq_iff_eq, beq_eq_false_iff_ne, Bool.and_eq_true, Bool.and_eq_false_iff, Bool.or_eq_true, Bool.not_eq_true', Bool.not_eq_false', ne_eq, bJ_0, bJ_t, bJ_f]) <;> (first | omega | (simp_all; done) | (simp_all; omega) | (simp_all [bJ]; done) | (refine ⟨?_, ?_⟩ <;> (first | omega | (simp_all; done) | (simp_all; omega)))))
    · unfold mX4_isBusy_b36
      ((try (simp (disch := omega) only [J_lit, J_add, J_sub, J_mul, J_neg, J_n, jle, jlt, jeq, jnn, jnat, Int.toNat_natCast, bJ_0, bJ_1, bft, gd_T, nar_J, nar_0, nar_1, if_true, if_false, Option.bind_some, gd_t, h.all])); repeat' ((first | ((with_reducible apply wp_gd); (focus (first | exact vp_J (by omega) (by omega) (by omega) | omega))) | (with_reducible apply wp_let) | (with_reducible apply wp_some) | ((with_reducible apply wp_ifT); (focus omega)) | ((with_reducible apply wp_ifF); (focus omega)) | ((with_reducible apply wp_if) <;> intro _) | (with_reducible apply wp_bind)) <;> try (simp (disch := omega) only [J_lit, J_add, J_sub, J_mul, J_neg, J_n, jle, jlt, jeq, jnn, jnat, Int.toNat_natCast, bJ_0, bJ_1, bft, gd_T, nar_J, nar_0, nar_1, if_true, if_false, Option.bind_some, gd_t, h.all])))
      all_goals ((try simp only [LR_l, LR_r, Prod.mk.injEq, Sum.inl.injEq, Sum.inr.injEq, reduceCtorEq, and_true, true_and, and_false, false_and, or_false, false_or, decide_eq_true_eq, decide_eq_false_iff_not, beq_iff_eq, beq_eq_false_iff_ne, Bool.and_eq_true, Bool.and_eq_false_iff, Bool.or_eq_true, Bool.not_eq_true', Bool.not_eq_false', ne_eq, bJ_0, bJ_t, bJ_f]) <;> (first | omega | (simp_all; done) | (simp_all; omega) | (simp_all [bJ]; done) | (refine ⟨?_, ?_⟩ <;> (first | omega | (simp_all; done) | (simp_all; omega)))))
  unfold mX4_isBusy PTb.busy
  (simp (disch := omega) only [J_lit, J_add, J_sub, J_mul, J_neg, J_n, jle, jlt, jeq, jnn, jnat, Int.toNat_natCast, bJ_0, bJ_1, bft, gd_T, nar_J, nar_0, nar_1, if_true, if_false, Option.bind_some, gd_t, k1])
  cases anyN r (fun q => T.cast c q == s)
  · (simp (disch := omega) only [J_lit, J_add, J_sub, J_mul, J_neg, J_n, jle, jlt, jeq, jnn, jnat, Int.toNat_natCast, bJ_0, bJ_1, bft, gd_T, nar_J, nar_0, nar_1, if_true, if_false, Option.bind_some, gd_t, k2, Sum.elim_inl])
    cases anyN T.all (fun d => T.isOn d c && T.isCast s d) <;> rfl
  · rfl
theorem q4_playsTwice (h : MTb T FI AI) (hT : PTbOk T) (hn : 10000 ≤ n) {c : Nat} (hc : c < T.all) : mX4_playsTwice n FI FR AI AN (J c) = some (bJ (T.plays c)) := by
  have h66 := hT.all
  have hb := hT.b hc
  have key : lpF (fun v => mX4_playsTwice_b2 n FI FR AI AN (J c) v) n (J 0) = some (if T.plays c then .inr () else .inl ()) := by
    refine wp_any _ _ ?_ ?_ (by omega : T.all < n)
    · intro k hk
      unfold mX4_playsTwice_b2
      ((try (simp (disch := omega) only [J_lit, J_add, J_sub, J_mul, J_neg, J_n, jle, jlt, jeq, jnn, jnat, Int.toNat_natCast, bJ_0, bJ_1, bft, gd_T, nar_J, nar_0, nar_1, if_true, if_false, Option.bind_some, gd_t, h.all, h.ch, q4_isOn h hT])); repeat' ((first | ((with_reducible apply wp_gd); (focus (first | exact vp_J (by omega) (by omega) (by omega) | omega))) | (with_reducible apply wp_let) | (with_reducible apply wp_some) | ((with_reducible apply wp_ifT); (focus omega)) | ((with_reducible apply wp_ifF); (focus omega)) | ((with_reducible apply wp_if) <;> intro _) | (with_reducible apply wp_bind)) <;> try (simp (disch := omega) only [J_lit, J_add, J_sub, J_mul, J_neg, J_n, jle, jlt, jeq, jnn, jnat, Int.toNat_natCast, bJ_0, bJ_1, bft, gd_T, nar_J, nar_0, nar_1, if_true, if_false, Option.bind_some, gd_t, h.all, h.ch, q4_isOn h hT])))
      all_goals ((try simp only [LR_l, LR_r, Prod.mk.injEq, Sum.inl.injEq, Sum.inr.injEq, reduceCtorEq, and_true, true_and, and_false, false_and, or_false, false_or, decide_eq_true_eq, decide_eq_false_iff_not, beq_iff_eq, beq_eq_false_iff_ne, Bool.and_eq_true, Bool.and_eq_false_iff, Bool.or_eq_true, Bool.not_eq_true', Bool.not_eq_false', ne_eq, bJ_0, bJ_t, bJ_f]) <;> (first | omega | (simp_all; done) | (simp_all; omega) | (simp_all [bJ]; done) | (refine ⟨?_, ?_⟩ <;> (first | omega | (simp_all; done) | (simp_all; omega)))))
    · unfold mX4_playsTwice_b2
      ((try (simp (disch := omega) only [J_lit, J_add, J_sub, J_mul, J_neg, J_n, jle, jlt, jeq, jnn, jnat, Int.toNat_natCast, bJ_0, bJ_1, bft, gd_T, nar_J, nar_0, nar_1, if_true, if_false, Option.bind_some, gd_t, h.all])); repeat' ((first | ((with_reducible apply wp_gd); (focus (first | exact vp_J (by omega) (by omega) (by omega) | omega))) | (with_reducible apply wp_let) | (with_reducible apply wp_some) | ((with_reducible apply wp_ifT); (focus omega)) | ((with_reducible apply wp_ifF); (focus omega)) | ((with_reducible apply wp_if) <;> intro _) | (with_reducible apply wp_bind)) <;> try (simp (disch := omega) only [J_lit, J_add, J_sub, J_mul, J_neg, J_n, jle, jlt, jeq, jnn, jnat, Int.toNat_natCast, bJ_0, bJ_1, bft, gd_T, nar_J, nar_0, nar_1, if_true, if_false, Option.bind_some, gd_t, h.all])))
      all_goals ((try simp only [LR_l, LR_r, Prod.mk.injEq, Sum.inl.injEq, Sum.inr.injEq, reduceCtorEq, and_true, true_and, and_false, false_and, or_false, false_or, decide_eq_true_eq, decide_eq_false_iff_not, beq_iff_eq, beq_eq_false_iff_ne, Bool.and_eq_true, Bool.and_eq_false_iff, Bool.or_eq_true, Bool.not_eq_true', Bool.not_eq_false', ne_eq, bJ_0, bJ_t, bJ_f]) <;> (first | omega | (simp_all; done) | (simp_all; omega) | (simp_all [bJ]; done) | (refine ⟨?_, ?_⟩ <;> (first | omega | (simp_all; done) | (simp_all; omega)))))
  unfold mX4_playsTwice
  (simp (disch := omega) only [J_lit, J_add, J_sub, J_mul, J_neg, J_n, jle, jlt, jeq, jnn, jnat, Int.toNat_natCast, bJ_0, bJ_1, bft, gd_T, nar_J, nar_0, nar_1, if_true, if_false, Option.bind_some, gd_t, key])
  cases T.plays c <;> rfl
theorem and1 {h : Int} (h0 : 0 ≤ h) (h3 : h ≤ 3) : ((J h &&& J 1) = J 1) = (h % 2 = 1) := by
  have hh : h = 0 ∨ h = 1 ∨ h = 2 ∨ h = 3 := by omega
  rcases hh with rfl | rfl | rfl | rfl <;> simp only [eq_iff_iff, J_def] <;> decide +kernel
theorem and2 {h : Int} (h0 : 0 ≤ h) (h3 : h ≤ 3) : ((J h &&& J 2) = J 2) = (h / 2 = 1) := by
  have hh : h = 0 ∨ h = 1 ∨ h = 2 ∨ h = 3 := by omega
  rcases hh with rfl | rfl | rfl | rfl <;> simp only [eq_iff_iff, J_def] <;> decide +kernel
theorem q4_lacksPlayers (h : MTb T FI AI) (hT : PTbOk T) (hn : 10000 ≤ n) {c : Nat} (hc : c < T.all) : mX4_lacksPlayers n FR AI AN (J c) = some (bJ (T.lacks c)) := by
  have h66 := hT.all
  have hb := hT.b hc
  have key : lpF (fun v => mX4_lacksPlayers_b2 n FR AI AN (J c) v) n (J 0) = some (if T.lacks c then .inr () else .inl ()) := by
    unfold PTb.lacks
    by_cases hk : 2 ≤ (T.ca c).kind
    · rw [decide_eq_true hk, Bool.true_and]
      refine wp_any _ _ ?_ ?_ (by omega : 4 < n)
      · intro k hk4
        have b1 := hT.S.one k hk4
        have b2 := hT.S.other k hk4
        have b3 := (hT.o hc).seats k hk4
        have hh : ((T.ca c).halves % 2 = 0 ∨ (T.ca c).halves % 2 = 1) ∧ ((T.ca c).halves / 2 = 0 ∨ (T.ca c).halves / 2 = 1) := by omega
        simp only [PTb.o] at b3
        unfold mX4_lacksPlayers_b2 mX4_lacksPlayers_j39 mX4_lacksPlayers_j63
        ((try (simp (disch := omega) only [J_lit, J_add, J_sub, J_mul, J_neg, J_n, jle, jlt, jeq, jnn, jnat, Int.toNat_natCast, bJ_0, bJ_1, bft, gd_T, nar_J, nar_0, nar_1, if_true, if_false, Option.bind_some, gd_t, h.ck, h.ch, h.co, h.one, h.other, h.seats _ k hb.1 hk4, and1, and2])); repeat' ((first | ((with_reducible apply wp_gd); (focus (first | exact vp_J (by omega) (by omega) (by omega) | omega))) | (with_reducible apply wp_let) | (with_reducible apply wp_some) | ((with_reducible apply wp_ifT); (focus omega)) | ((with_reducible apply wp_ifF); (focus omega)) | ((with_reducible apply wp_if) <;> intro _) | (with_reducible apply wp_bind)) <;> try (simp (disch := omega) only [J_lit, J_add, J_sub, J_mul, J_neg, J_n, jle, jlt, jeq, jnn, jnat, Int.toNat_natCast, bJ_0, bJ_1, bft, gd_T, nar_J, nar_0, nar_1, if_true, if_false, Option.bind_some, gd_t, h.ck, h.ch, h.co, h.one, h.other, h.seats _ k hb.1 hk4, and1, and2])))
        all_goals (simp only [LR_l, LR_r, PTb.o])
        all_goals (obtain ⟨h1 | h1, h2 | h2⟩ := hh)
        all_goals (first | (exfalso; omega) | (simp only [h1, h2, Int.zero_mul, Int.one_mul, Int.add_zero, Int.zero_add, decide_eq_true_eq, decide_eq_false_iff_not]; first | omega | exact ⟨by omega, trivial⟩))
      · unfold mX4_lacksPlayers_b2
        ((try (simp (disch := omega) only [J_lit, J_add, J_sub, J_mul, J_neg, J_n, jle, jlt, jeq, jnn, jnat, Int.toNat_natCast, bJ_0, bJ_1, bft, gd_T, nar_J, nar_0, nar_1, if_true, if_false, Option.bind_some, gd_t, h.all])); repeat' ((first | ((with_reducible apply wp_gd); (focus (first | exact vp_J (by omega) (by omega) (by omega) | omega))) | (with_reducible apply wp_let) | (with_reducible apply wp_some) | ((with_reducible apply wp_ifT); (focus omega)) | ((with_reducible apply wp_ifF); (focus omega)) | ((with_reducible apply wp_if) <;> intro _) | (with_reducible apply wp_bind)) <;> try (simp (disch := omega) only [J_lit, J_add, J_sub, J_mul, J_neg, J_n, jle, jlt, jeq, jnn, jnat, Int.toNat_natCast, bJ_0, bJ_1, bft, gd_T, nar_J, nar_0, nar_1, if_true, if_false, Option.bind_some, gd_t, h.all])))
        all_goals ((try simp only [LR_l, LR_r, Prod.mk.injEq, Sum.inl.injEq, Sum.inr.injEq, reduceCtorEq, and_true, true_and, and_false, false_and, or_false, false_or, decide_eq_true_eq, decide_eq_false_iff_not, beq_iff_eq, beq_eq_false_iff_ne, Bool.and_eq_true, Bool.and_eq_false_iff, Bool.or_eq_true, Bool.not_eq_true', Bool.not_eq_false', ne_eq, bJ_0, bJ_t, bJ_f]) <;> (first | omega | (simp_all; done) | (simp_all; omega) | (simp_all [bJ]; done) | (refine ⟨?_, ?_⟩ <;> (first | omega | (simp_all; done) | (simp_all; omega)))))
    · rw [decide_eq_false hk, Bool.false_and]
      apply wp_eq
      refine wp_lp (fun _ => 0) (fun a => a = J 0) ?_ rfl (by omega)
      rintro a rfl
      unfold mX4_lacksPlayers_b2
      ((try (simp (disch := omega) only [J_lit, J_add, J_sub, J_mul, J_neg, J_n, jle, jlt, jeq, jnn, jnat, Int.toNat_natCast, bJ_0, bJ_1, bft, gd_T, nar_J, nar_0, nar_1, if_true, if_false, Option.bind_some, gd_t, h.ck])); repeat' ((first | ((with_reducible apply wp_gd); (focus (first | exact vp_J (by omega) (by omega) (by omega) | omega))) | (with_reducible apply wp_let) | (with_reducible apply wp_some) | ((with_reducible apply wp_ifT); (focus omega)) | ((with_reducible apply wp_ifF); (focus omega)) | ((with_reducible apply wp_if) <;> intro _) | (with_reducible apply wp_bind)) <;> try (simp (disch := omega) only [J_lit, J_add, J_sub, J_mul, J_neg, J_n, jle, jlt, jeq, jnn, jnat, Int.toNat_natCast, bJ_0, bJ_1, bft, gd_T, nar_J, nar_0, nar_1, if_true, if_false, Option.bind_some, gd_t, h.ck])))
      rfl
  unfold mX4_lacksPlayers
  (simp (disch := omega) only [J_lit, J_add, J_sub, J_mul, J_neg, J_n, jle, jlt, jeq, jnn, jnat, Int.toNat_natCast, bJ_0, bJ_1, bft, gd_T, nar_J, nar_0, nar_1, if_true, if_false, Option.bind_some, gd_t, key])
  cases T.lacks c <;> rfl
theorem hasCh_eq (h : MTb T FI AI) (hT : PTbOk T) {c : Nat} (hc : c < T.all) : AI 116 0 (T.ca c).op = bJ (T.o c).chorus := h.chorus _ (hT.b hc).1
theorem chB (hT : PTbOk T) {n : Nat} (hn : n ≤ T.all) {P : Nat → Prop} [DecidablePred P] : 0 ≤ sumN n (fun k => if P k then T.long (T.ord k) else 0) ∧ sumN n (fun k => if P k then T.long (T.ord k) else 0) ≤ 396 := by
  have h66 := hT.all
  refine ⟨sumN_nn fun k hk => ?_, ?_⟩
  · have hb := hT.b (hT.ord k (by omega))
    unfold PTb.long; split <;> omega
  · have := sumN_le (n := n) (f := fun k => if P k then T.long (T.ord k) else 0) (B := 6) (fun k hk => by
      have hb := hT.b (hT.ord k (by omega))
      unfold PTb.long; split <;> omega)
    omega
theorem q4_tiresChorus (h : MTb T FI AI) (hT : PTbOk T) (hn : 10000 ≤ n) {c : Nat} (hc : c < T.all) : mX4_tiresChorus n FI FR AI AN (J c) = some (bJ (T.chOver c)) := by
  have h66 := hT.all
  have hb := hT.b hc
  have hd := hT.S.daily
  have hw := hT.S.weekly
  have k1 : lpF (fun v => mX4_tiresChorus_b32 n FI FR AI AN (J c) v.1 v.2.1 v.2.2) n (J 0, J 0, J 0) = some (J (T.chDay c (T.pos c + 1)), J (T.chWeek c (T.pos c + 1))) := by
    refine wp_fold (fun k => (J (T.chDay c k), J (T.chWeek c k), J k)) _ (T.pos c + 1) ?_ ?_ (by omega : T.pos c + 1 < n) rfl
    · intro k hk
      have ho := hT.ord k (by omega)
      have hb2 := hT.b ho
      simp only []
      unfold mX4_tiresChorus_b32 mX4_tiresChorus_j107
      ((try (simp (disch := omega) only [J_lit, J_add, J_sub, J_mul, J_neg, J_n, jle, jlt, jeq, jnn, jnat, Int.toNat_natCast, bJ_0, bJ_1, bft, gd_T, nar_J, nar_0, nar_1, if_true, if_false, Option.bind_some, gd_t, h.pos, h.ord, h.ck, h.co, hasCh_eq h hT, h.cd, q4_longOf h hT])); repeat' ((first | ((with_reducible apply wp_gd); (focus (first | exact vp_J (by omega) (by omega) (by omega) | omega))) | (with_reducible apply wp_let) | (with_reducible apply wp_some) | ((with_reducible apply wp_ifT); (focus omega)) | ((with_reducible apply wp_ifF); (focus omega)) | ((with_reducible apply wp_if) <;> intro _) | (with_reducible apply wp_bind)) <;> try (simp (disch := omega) only [J_lit, J_add, J_sub, J_mul, J_neg, J_n, jle, jlt, jeq, jnn, jnat, Int.toNat_natCast, bJ_0, bJ_1, bft, gd_T, nar_J, nar_0, nar_1, if_true, if_false, Option.bind_some, gd_t, h.pos, h.ord, h.ck, h.co, hasCh_eq h hT, h.cd, q4_longOf h hT])))
      all_goals (simp only [LR_l, Prod.mk.injEq, PTb.chDay, PTb.chWeek, sumN, PTb.hasCh, Bool.and_eq_true, decide_eq_true_eq])
      all_goals (refine ⟨congrArg J ?_, congrArg J ?_, congrArg J (by omega)⟩)
      all_goals (first | (rw [if_pos (by first | omega | (simp_all; done) | (simp_all; omega))]; first | done | omega) | (rw [if_neg (by first | omega | (simp_all; done) | (simp_all; omega))]; first | done | omega))
    · simp only []
      unfold mX4_tiresChorus_b32
      ((try (simp (disch := omega) only [J_lit, J_add, J_sub, J_mul, J_neg, J_n, jle, jlt, jeq, jnn, jnat, Int.toNat_natCast, bJ_0, bJ_1, bft, gd_T, nar_J, nar_0, nar_1, if_true, if_false, Option.bind_some, gd_t, h.pos])); repeat' ((first | ((with_reducible apply wp_gd); (focus (first | exact vp_J (by omega) (by omega) (by omega) | omega))) | (with_reducible apply wp_let) | (with_reducible apply wp_some) | ((with_reducible apply wp_ifT); (focus omega)) | ((with_reducible apply wp_ifF); (focus omega)) | ((with_reducible apply wp_if) <;> intro _) | (with_reducible apply wp_bind)) <;> try (simp (disch := omega) only [J_lit, J_add, J_sub, J_mul, J_neg, J_n, jle, jlt, jeq, jnn, jnat, Int.toNat_natCast, bJ_0, bJ_1, bft, gd_T, nar_J, nar_0, nar_1, if_true, if_false, Option.bind_some, gd_t, h.pos])))
      all_goals ((try simp only [LR_l, LR_r, Prod.mk.injEq, Sum.inl.injEq, Sum.inr.injEq, reduceCtorEq, and_true, true_and, and_false, false_and, or_false, false_or, decide_eq_true_eq, decide_eq_false_iff_not, beq_iff_eq, beq_eq_false_iff_ne, Bool.and_eq_true, Bool.and_eq_false_iff, Bool.or_eq_true, Bool.not_eq_true', Bool.not_eq_false', ne_eq, bJ_0, bJ_t, bJ_f]) <;> (first | omega | (simp_all; done) | (simp_all; omega) | (simp_all [bJ]; done) | (refine ⟨?_, ?_⟩ <;> (first | omega | (simp_all; done) | (simp_all; omega)))))
  have b1 : 0 ≤ T.chDay c (T.pos c + 1) ∧ T.chDay c (T.pos c + 1) ≤ 396 := chB hT (by omega)
  have b2 : 0 ≤ T.chWeek c (T.pos c + 1) ∧ T.chWeek c (T.pos c + 1) ≤ 396 := chB hT (by omega)
  apply wp_eq
  unfold mX4_tiresChorus
  ((try (simp (disch := omega) only [J_lit, J_add, J_sub, J_mul, J_neg, J_n, jle, jlt, jeq, jnn, jnat, Int.toNat_natCast, bJ_0, bJ_1, bft, gd_T, nar_J, nar_0, nar_1, if_true, if_false, Option.bind_some, gd_t, h.ck, h.co, hasCh_eq h hT, h.daily, h.weekly, k1])); repeat' ((first | ((with_reducible apply wp_gd); (focus (first | exact vp_J (by omega) (by omega) (by omega) | omega))) | (with_reducible apply wp_let) | (with_reducible apply wp_some) | ((with_reducible apply wp_ifT); (focus omega)) | ((with_reducible apply wp_ifF); (focus omega)) | ((with_reducible apply wp_if) <;> intro _) | (with_reducible apply wp_bind)) <;> try (simp (disch := omega) only [J_lit, J_add, J_sub, J_mul, J_neg, J_n, jle, jlt, jeq, jnn, jnat, Int.toNat_natCast, bJ_0, bJ_1, bft, gd_T, nar_J, nar_0, nar_1, if_true, if_false, Option.bind_some, gd_t, h.ck, h.co, hasCh_eq h hT, h.daily, h.weekly, k1])))
  all_goals (unfold PTb.chOver PTb.hasCh; ((first | refine bJ_e1 ?_ | refine bJ_e0 ?_); (try simp only [decide_eq_true_eq, decide_eq_false_iff_not, beq_iff_eq, beq_eq_false_iff_ne, Bool.and_eq_true, Bool.and_eq_false_iff, Bool.or_eq_true, Bool.or_eq_false_iff, Bool.not_eq_true', Bool.not_eq_false', Bool.not_eq_true, ne_eq] at *); (first | omega | (simp_all; done) | (simp_all; omega))))
end
end
