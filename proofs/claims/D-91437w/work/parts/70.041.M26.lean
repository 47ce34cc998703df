noncomputable section
set_option linter.unusedVariables false
set_option linter.unusedSimpArgs false
/-! PLAIN 29: the twin's public operations, 4 -/
/-- a plain contract is written -/
def pl4 (f : Nat → Int32) (s : Nat) : Nat → Int32 := uA (uA (uA (uA f (4 * (s : Int)).toNat (J 12)) (4 * (s : Int) + 1).toNat (J 8)) (4 * (s : Int) + 2).toNat (J 4)) (4 * (s : Int) + 3).toNat (J 100)
def plA (A : OhI) (s : Nat) : OhI := sA (sA (sA A 125 0 (pl4 (A 125 0) s)) 126 0 (uA (A 126 0) s (J 0))) 129 0 (uA (A 129 0) s (J 0))
theorem q4_plain {AI : OhI} {FR : OhQ} {AN : OhN} {s : Nat} (hs : s ≤ 20) : mX4_plain FR AI AN (J s) = some (plA AI s) := by
  apply wp_eq
  unfold mX4_plain
  ((repeat' (first | ((with_reducible apply wp_let); try dsimp only) | ((with_reducible apply wp_gdJ); (focus (first | ((simp (disch := omega) only [J_lit, J_add, J_sub, J_mul, J_neg, J_n, jle, jlt, jeq, jnn, jnat, Int.toNat_natCast, bJ_0, bJ_1, bft, gd_T, nar_J, nar_0, nar_1, if_true, if_false, Option.bind_some, gd_t]); rfl) | rfl)); (focus (first | exact True.intro | (first | exact vp_J (by omega) (by omega) (by omega) | omega)))) | ((with_reducible apply wp_ifJT); (focus (first | ((simp (disch := omega) only [J_lit, J_add, J_sub, J_mul, J_neg, J_n, jle, jlt, jeq, jnn, jnat, Int.toNat_natCast, bJ_0, bJ_1, bft, gd_T, nar_J, nar_0, nar_1, if_true, if_false, Option.bind_some, gd_t, decide_eq_false_iff_not, decide_eq_true_eq]); rfl) | rfl)); (focus (first | exact True.intro | omega))) | ((with_reducible apply wp_ifJF); (focus (first | ((simp (disch := omega) only [J_lit, J_add, J_sub, J_mul, J_neg, J_n, jle, jlt, jeq, jnn, jnat, Int.toNat_natCast, bJ_0, bJ_1, bft, gd_T, nar_J, nar_0, nar_1, if_true, if_false, Option.bind_some, gd_t, decide_eq_false_iff_not, decide_eq_true_eq]); rfl) | rfl)); (focus (first | exact not_false | omega))) | ((with_reducible apply wp_ifJ); (focus (first | ((simp (disch := omega) only [J_lit, J_add, J_sub, J_mul, J_neg, J_n, jle, jlt, jeq, jnn, jnat, Int.toNat_natCast, bJ_0, bJ_1, bft, gd_T, nar_J, nar_0, nar_1, if_true, if_false, Option.bind_some, gd_t, decide_eq_false_iff_not, decide_eq_true_eq]); rfl) | rfl)); all_goals intro _) | (with_reducible apply wp_some) | ((with_reducible apply wp_eli); try dsimp only) | ((with_reducible apply wp_elr); try dsimp only) | ((with_reducible apply wp_bindE); (focus ((simp (disch := omega) only [J_lit, J_add, J_sub, J_mul, J_neg, J_n, jle, jlt, jeq, jnn, jnat, Int.toNat_natCast, bJ_0, bJ_1, bft, gd_T, nar_J, nar_0, nar_1, if_true, if_false, Option.bind_some, gd_t]); rfl)); try dsimp only) | (with_reducible apply wp_bind))); all_goals (try (simp (disch := omega) only [J_lit, J_add, J_sub, J_mul, J_neg, J_n, jle, jlt, jeq, jnn, jnat, Int.toNat_natCast, bJ_0, bJ_1, bft, gd_T, nar_J, nar_0, nar_1, if_true, if_false, Option.bind_some, gd_t])))
  simp (disch := decide) only [sA_same, sA_sA, sA_site]
  rfl
theorem plA_ne (A : OhI) (s : Nat) {t : Nat} (h1 : t ≠ 125) (h2 : t ≠ 126) (h3 : t ≠ 129) : plA A s t = A t := by unfold plA; rw [sA_site _ _ _ h3, sA_site _ _ _ h2, sA_site _ _ _ h1]
theorem pl4_ne (f : Nat → Int32) {s i : Nat} {d : Int} (h : i ≠ s) (h0 : 0 ≤ d) (h3 : d ≤ 3) : pl4 f s (4 * (i : Int) + d).toNat = f (4 * (i : Int) + d).toNat := by
  unfold pl4
  rw [uA_ne _ _ (by omega), uA_ne _ _ (by omega), uA_ne _ _ (by omega), uA_ne _ _ (by omega)]
theorem pl4_at (f : Nat → Int32) (s : Nat) : pl4 f s (4 * (s : Int) + 0).toNat = J 12 ∧ pl4 f s (4 * (s : Int) + 1).toNat = J 8 ∧ pl4 f s (4 * (s : Int) + 2).toNat = J 4 ∧ pl4 f s (4 * (s : Int) + 3).toNat = J 100 := by
  unfold pl4
  refine ⟨?_, ?_, ?_, ?_⟩
  · rw [uA_ne _ _ (by omega), uA_ne _ _ (by omega), uA_ne _ _ (by omega), Int.add_zero, uA_same]
  · rw [uA_ne _ _ (by omega), uA_ne _ _ (by omega), uA_same]
  · rw [uA_ne _ _ (by omega), uA_same]
  · rw [uA_same]
section
variable {S : PSt} {FI AI : OhI} {n : Nat} {FR : OhQ} {AN : OhN}
theorem m4_singer (hS : PStOk S) (h : MInv S FI AI) {v t z : Int} (h1 : jo v) (h2 : jo t) (h3 : jo z) : wp (mX4_singer FI FR AI AN (J v) (J t) (J z)) (MOk (oSinger S v t z).2 (oSinger S v t z).1 FI AI) := by
  have k := h.th0_
  have hN := hS.nS
  have a1 := h1.1; have a2 := h1.2; have a3 := h2.1; have a4 := h2.2; have a5 := h3.1; have a6 := h3.2
  unfold mX4_singer oSinger
  ((repeat' (first | ((with_reducible apply wp_let); try dsimp only) | ((with_reducible apply wp_gdJ); (focus (first | ((simp (disch := omega) only [J_lit, J_add, J_sub, J_mul, J_neg, J_n, jle, jlt, jeq, jnn, jnat, Int.toNat_natCast, bJ_0, bJ_1, bft, gd_T, nar_J, nar_0, nar_1, if_true, if_false, Option.bind_some, gd_t, fold0, k.nS, q4_isIn, q4_plain]); rfl) | rfl)); (focus (first | exact True.intro | (first | exact vp_J (by omega) (by omega) (by omega) | omega)))) | ((with_reducible apply wp_ifJT); (focus (first | ((simp (disch := omega) only [J_lit, J_add, J_sub, J_mul, J_neg, J_n, jle, jlt, jeq, jnn, jnat, Int.toNat_natCast, bJ_0, bJ_1, bft, gd_T, nar_J, nar_0, nar_1, if_true, if_false, Option.bind_some, gd_t, decide_eq_false_iff_not, decide_eq_true_eq, fold0, k.nS, q4_isIn, q4_plain]); rfl) | rfl)); (focus (first | exact True.intro | omega))) | ((with_reducible apply wp_ifJF); (focus (first | ((simp (disch := omega) only [J_lit, J_add, J_sub, J_mul, J_neg, J_n, jle, jlt, jeq, jnn, jnat, Int.toNat_natCast, bJ_0, bJ_1, bft, gd_T, nar_J, nar_0, nar_1, if_true, if_false, Option.bind_some, gd_t, decide_eq_false_iff_not, decide_eq_true_eq, fold0, k.nS, q4_isIn, q4_plain]); rfl) | rfl)); (focus (first | exact not_false | omega))) | ((with_reducible apply wp_ifJ); (focus (first | ((simp (disch := omega) only [J_lit, J_add, J_sub, J_mul, J_neg, J_n, jle, jlt, jeq, jnn, jnat, Int.toNat_natCast, bJ_0, bJ_1, bft, gd_T, nar_J, nar_0, nar_1, if_true, if_false, Option.bind_some, gd_t, decide_eq_false_iff_not, decide_eq_true_eq, fold0, k.nS, q4_isIn, q4_plain]); rfl) | rfl)); all_goals intro _) | (with_reducible apply wp_some) | ((with_reducible apply wp_eli); try dsimp only) | ((with_reducible apply wp_elr); try dsimp only) | ((with_reducible apply wp_bindE); (focus ((simp (disch := omega) only [J_lit, J_add, J_sub, J_mul, J_neg, J_n, jle, jlt, jeq, jnn, jnat, Int.toNat_natCast, bJ_0, bJ_1, bft, gd_T, nar_J, nar_0, nar_1, if_true, if_false, Option.bind_some, gd_t, fold0, k.nS, q4_isIn, q4_plain]); rfl)); try dsimp only) | (with_reducible apply wp_bind))); all_goals (try (simp (disch := omega) only [J_lit, J_add, J_sub, J_mul, J_neg, J_n, jle, jlt, jeq, jnn, jnat, Int.toNat_natCast, bJ_0, bJ_1, bft, gd_T, nar_J, nar_0, nar_1, if_true, if_false, Option.bind_some, gd_t, fold0, k.nS, q4_isIn, q4_plain])))
  · rw [if_neg (by omega)]; exact MOk0 h
  · rw [if_neg (by omega)]; exact MOk0 h
  · rw [if_neg (by omega)]; exact MOk0 h
  · rw [if_neg (by omega)]; exact MOk0 h
  · rw [if_pos (by omega)]
    simp (disch := decide) only [sA_same, sA_sA, sA_site, uA_same, uA_ne]
    have ct : ∀ i, i < S.nS → (if i = S.nS then plainCt else S.ct i) = S.ct i := fun i hi => by rw [if_neg (by omega)]
    refine ⟨?_, (MInv.mk (toMCore := MCore.mk (toMSt := MSt.mk (nO := k.nO) (nS := rfl) (daily := k.daily) (weekly := k.weekly) (hours := k.hours) (set := k.set) (need := k.need) (seats := k.seats) (nr := k.nr) (voice := k.voice) (strain := k.strain) (tongue := k.tongue) (size := k.size) (chorus := k.chorus) (voices := ?_) (tongues := ?_) (sizeOf := ?_) (one := k.one) (other := k.other) (rest := ?_) (day := ?_) (week := ?_) (voiceOf := ?_) (nl := ?_) (lf := ?_) (lt := ?_) (nf := ?_) (much := ?_) (code := ?_) (nL := k.nL) (nI := k.nI) (nP := k.nP) (nC := k.nC) (leS := k.leS) (leR := k.leR) (leH := k.leH) (leD := k.leD) (ilS := k.ilS) (ilF := k.ilF) (ilT := k.ilT) (ilD := k.ilD) (ptC := k.ptC) (ptR := k.ptR) (ptW := k.ptW) (ptD := k.ptD) (ptV := k.ptV)) (toMCa := k.toMCa) (today := k.today)) (taped := k.taped) (tape := k.tape) (stamp := (show th0 FI 1 0 6 + J 1 = S.stamp + J 1 by rw [k.stamp])) (fault := k.fault) (nF := k.nF) (fk := k.fk) (fc := k.fc) (fr := k.fr) (laidN := k.laidN) (laidDay := k.laidDay) (laidOp := k.laidOp) (laidHour := k.laidHour) (laidStamp := k.laidStamp)), ?_⟩
    · show J ((S.nS : Int) + 1) - J 1 = _
      rw [J_sub]; exact congrArg J (by omega)
    · exact row1 (A := AI) (f := fun i => J (S.sg i).voices) k.voices (fun i hi => by simp [PSt.nS_s_nS, PSt.sg_s_nS, PSt.ct_s_nS, PSt.stamp_s_nS, PSt.nS_s_sg, PSt.sg_s_sg, PSt.ct_s_sg, PSt.stamp_s_sg, PSt.nS_s_ct, PSt.sg_s_ct, PSt.ct_s_ct, PSt.stamp_s_ct, PSt.nS_s_stamp, PSt.sg_s_stamp, PSt.ct_s_stamp, PSt.stamp_s_stamp, PSg.g_voices, PSg.g_tongues, PSg.g_size, PCt.g_rest, PCt.g_day, PCt.g_week, PCt.g_voice, PCt.g_nl, PCt.g_lf, PCt.g_lt, PCt.g_nf, PCt.g_much, PCt.g_cd, show i ≠ S.nS by omega]) (by simp [PSt.nS_s_nS, PSt.sg_s_nS, PSt.ct_s_nS, PSt.stamp_s_nS, PSt.nS_s_sg, PSt.sg_s_sg, PSt.ct_s_sg, PSt.stamp_s_sg, PSt.nS_s_ct, PSt.sg_s_ct, PSt.ct_s_ct, PSt.stamp_s_ct, PSt.nS_s_stamp, PSt.sg_s_stamp, PSt.ct_s_stamp, PSt.stamp_s_stamp, PSg.g_voices, PSg.g_tongues, PSg.g_size, PCt.g_rest, PCt.g_day, PCt.g_week, PCt.g_voice, PCt.g_nl, PCt.g_lf, PCt.g_lt, PCt.g_nf, PCt.g_much, PCt.g_cd])
    · exact row1 (A := AI) (f := fun i => J (S.sg i).tongues) k.tongues (fun i hi => by simp [PSt.nS_s_nS, PSt.sg_s_nS, PSt.ct_s_nS, PSt.stamp_s_nS, PSt.nS_s_sg, PSt.sg_s_sg, PSt.ct_s_sg, PSt.stamp_s_sg, PSt.nS_s_ct, PSt.sg_s_ct, PSt.ct_s_ct, PSt.stamp_s_ct, PSt.nS_s_stamp, PSt.sg_s_stamp, PSt.ct_s_stamp, PSt.stamp_s_stamp, PSg.g_voices, PSg.g_tongues, PSg.g_size, PCt.g_rest, PCt.g_day, PCt.g_week, PCt.g_voice, PCt.g_nl, PCt.g_lf, PCt.g_lt, PCt.g_nf, PCt.g_much, PCt.g_cd, show i ≠ S.nS by omega]) (by simp [PSt.nS_s_nS, PSt.sg_s_nS, PSt.ct_s_nS, PSt.stamp_s_nS, PSt.nS_s_sg, PSt.sg_s_sg, PSt.ct_s_sg, PSt.stamp_s_sg, PSt.nS_s_ct, PSt.sg_s_ct, PSt.ct_s_ct, PSt.stamp_s_ct, PSt.nS_s_stamp, PSt.sg_s_stamp, PSt.ct_s_stamp, PSt.stamp_s_stamp, PSg.g_voices, PSg.g_tongues, PSg.g_size, PCt.g_rest, PCt.g_day, PCt.g_week, PCt.g_voice, PCt.g_nl, PCt.g_lf, PCt.g_lt, PCt.g_nf, PCt.g_much, PCt.g_cd])
    · exact row1 (A := AI) (f := fun i => J (S.sg i).size) k.sizeOf (fun i hi => by simp [PSt.nS_s_nS, PSt.sg_s_nS, PSt.ct_s_nS, PSt.stamp_s_nS, PSt.nS_s_sg, PSt.sg_s_sg, PSt.ct_s_sg, PSt.stamp_s_sg, PSt.nS_s_ct, PSt.sg_s_ct, PSt.ct_s_ct, PSt.stamp_s_ct, PSt.nS_s_stamp, PSt.sg_s_stamp, PSt.ct_s_stamp, PSt.stamp_s_stamp, PSg.g_voices, PSg.g_tongues, PSg.g_size, PCt.g_rest, PCt.g_day, PCt.g_week, PCt.g_voice, PCt.g_nl, PCt.g_lf, PCt.g_lt, PCt.g_nf, PCt.g_much, PCt.g_cd, show i ≠ S.nS by omega]) (by simp [PSt.nS_s_nS, PSt.sg_s_nS, PSt.ct_s_nS, PSt.stamp_s_nS, PSt.nS_s_sg, PSt.sg_s_sg, PSt.ct_s_sg, PSt.stamp_s_sg, PSt.nS_s_ct, PSt.sg_s_ct, PSt.ct_s_ct, PSt.stamp_s_ct, PSt.nS_s_stamp, PSt.sg_s_stamp, PSt.ct_s_stamp, PSt.stamp_s_stamp, PSg.g_voices, PSg.g_tongues, PSg.g_size, PCt.g_rest, PCt.g_day, PCt.g_week, PCt.g_voice, PCt.g_nl, PCt.g_lf, PCt.g_lt, PCt.g_nf, PCt.g_much, PCt.g_cd])
    · intro i hi
      show pl4 (AI 125 0) S.nS (4 * (i : Int) + 0).toNat = J (if i = S.nS then plainCt else S.ct i).rest
      by_cases q : i = S.nS
      · subst q; rw [(pl4_at _ _).1, if_pos rfl]; rfl
      · rw [pl4_ne _ q (by omega) (by omega), if_neg q]; exact k.rest i (by have : i < S.nS + 1 := hi; omega)
    · intro i hi
      show pl4 (AI 125 0) S.nS (4 * (i : Int) + 1).toNat = J (if i = S.nS then plainCt else S.ct i).day
      by_cases q : i = S.nS
      · subst q; rw [(pl4_at _ _).2.1, if_pos rfl]; rfl
      · rw [pl4_ne _ q (by omega) (by omega), if_neg q]; exact k.day i (by have : i < S.nS + 1 := hi; omega)
    · intro i hi
      show pl4 (AI 125 0) S.nS (4 * (i : Int) + 2).toNat = J (if i = S.nS then plainCt else S.ct i).week
      by_cases q : i = S.nS
      · subst q; rw [(pl4_at _ _).2.2.1, if_pos rfl]; rfl
      · rw [pl4_ne _ q (by omega) (by omega), if_neg q]; exact k.week i (by have : i < S.nS + 1 := hi; omega)
    · intro i hi
      show pl4 (AI 125 0) S.nS (4 * (i : Int) + 3).toNat = J (if i = S.nS then plainCt else S.ct i).voice
      by_cases q : i = S.nS
      · subst q; rw [(pl4_at _ _).2.2.2, if_pos rfl]; rfl
      · rw [pl4_ne _ q (by omega) (by omega), if_neg q]; exact k.voiceOf i (by have : i < S.nS + 1 := hi; omega)
    · exact row1 (A := AI) (f := fun i => J ((S.ct i).nl : Int)) k.nl (fun i hi => by simp [PSt.nS_s_nS, PSt.sg_s_nS, PSt.ct_s_nS, PSt.stamp_s_nS, PSt.nS_s_sg, PSt.sg_s_sg, PSt.ct_s_sg, PSt.stamp_s_sg, PSt.nS_s_ct, PSt.sg_s_ct, PSt.ct_s_ct, PSt.stamp_s_ct, PSt.nS_s_stamp, PSt.sg_s_stamp, PSt.ct_s_stamp, PSt.stamp_s_stamp, PSg.g_voices, PSg.g_tongues, PSg.g_size, PCt.g_rest, PCt.g_day, PCt.g_week, PCt.g_voice, PCt.g_nl, PCt.g_lf, PCt.g_lt, PCt.g_nf, PCt.g_much, PCt.g_cd, show i ≠ S.nS by omega]) (by simp [plainCt, PSt.nS_s_nS, PSt.sg_s_nS, PSt.ct_s_nS, PSt.stamp_s_nS, PSt.nS_s_sg, PSt.sg_s_sg, PSt.ct_s_sg, PSt.stamp_s_sg, PSt.nS_s_ct, PSt.sg_s_ct, PSt.ct_s_ct, PSt.stamp_s_ct, PSt.nS_s_stamp, PSt.sg_s_stamp, PSt.ct_s_stamp, PSt.stamp_s_stamp, PSg.g_voices, PSg.g_tongues, PSg.g_size, PCt.g_rest, PCt.g_day, PCt.g_week, PCt.g_voice, PCt.g_nl, PCt.g_lf, PCt.g_lt, PCt.g_nf, PCt.g_much, PCt.g_cd])
    · intro i j hi hj
      show AI 127 0 (6 * (i : Int) + (j : Int)).toNat = J ((if i = S.nS then plainCt else S.ct i).lf j)
      have hj2 : j < (if i = S.nS then plainCt else S.ct i).nl := hj
      by_cases q : i = S.nS
      · rw [if_pos q] at hj2; simp [plainCt, PSt.nS_s_nS, PSt.sg_s_nS, PSt.ct_s_nS, PSt.stamp_s_nS, PSt.nS_s_sg, PSt.sg_s_sg, PSt.ct_s_sg, PSt.stamp_s_sg, PSt.nS_s_ct, PSt.sg_s_ct, PSt.ct_s_ct, PSt.stamp_s_ct, PSt.nS_s_stamp, PSt.sg_s_stamp, PSt.ct_s_stamp, PSt.stamp_s_stamp, PSg.g_voices, PSg.g_tongues, PSg.g_size, PCt.g_rest, PCt.g_day, PCt.g_week, PCt.g_voice, PCt.g_nl, PCt.g_lf, PCt.g_lt, PCt.g_nf, PCt.g_much, PCt.g_cd] at hj2
      · rw [if_neg q] at hj2 ⊢; exact k.lf i j (by have : i < S.nS + 1 := hi; omega) hj2
    · intro i j hi hj
      show AI 128 0 (6 * (i : Int) + (j : Int)).toNat = J ((if i = S.nS then plainCt else S.ct i).lt j)
      have hj2 : j < (if i = S.nS then plainCt else S.ct i).nl := hj
      by_cases q : i = S.nS
      · rw [if_pos q] at hj2; simp [plainCt, PSt.nS_s_nS, PSt.sg_s_nS, PSt.ct_s_nS, PSt.stamp_s_nS, PSt.nS_s_sg, PSt.sg_s_sg, PSt.ct_s_sg, PSt.stamp_s_sg, PSt.nS_s_ct, PSt.sg_s_ct, PSt.ct_s_ct, PSt.stamp_s_ct, PSt.nS_s_stamp, PSt.sg_s_stamp, PSt.ct_s_stamp, PSt.stamp_s_stamp, PSg.g_voices, PSg.g_tongues, PSg.g_size, PCt.g_rest, PCt.g_day, PCt.g_week, PCt.g_voice, PCt.g_nl, PCt.g_lf, PCt.g_lt, PCt.g_nf, PCt.g_much, PCt.g_cd] at hj2
      · rw [if_neg q] at hj2 ⊢; exact k.lt i j (by have : i < S.nS + 1 := hi; omega) hj2
    · exact row1 (A := AI) (f := fun i => J ((S.ct i).nf : Int)) k.nf (fun i hi => by simp [PSt.nS_s_nS, PSt.sg_s_nS, PSt.ct_s_nS, PSt.stamp_s_nS, PSt.nS_s_sg, PSt.sg_s_sg, PSt.ct_s_sg, PSt.stamp_s_sg, PSt.nS_s_ct, PSt.sg_s_ct, PSt.ct_s_ct, PSt.stamp_s_ct, PSt.nS_s_stamp, PSt.sg_s_stamp, PSt.ct_s_stamp, PSt.stamp_s_stamp, PSg.g_voices, PSg.g_tongues, PSg.g_size, PCt.g_rest, PCt.g_day, PCt.g_week, PCt.g_voice, PCt.g_nl, PCt.g_lf, PCt.g_lt, PCt.g_nf, PCt.g_much, PCt.g_cd, show i ≠ S.nS by omega]) (by simp [plainCt, PSt.nS_s_nS, PSt.sg_s_nS, PSt.ct_s_nS, PSt.stamp_s_nS, PSt.nS_s_sg, PSt.sg_s_sg, PSt.ct_s_sg, PSt.stamp_s_sg, PSt.nS_s_ct, PSt.sg_s_ct, PSt.ct_s_ct, PSt.stamp_s_ct, PSt.nS_s_stamp, PSt.sg_s_stamp, PSt.ct_s_stamp, PSt.stamp_s_stamp, PSg.g_voices, PSg.g_tongues, PSg.g_size, PCt.g_rest, PCt.g_day, PCt.g_week, PCt.g_voice, PCt.g_nl, PCt.g_lf, PCt.g_lt, PCt.g_nf, PCt.g_much, PCt.g_cd])
    · intro i j hi hj
      show AI 130 0 (8 * (i : Int) + (j : Int)).toNat = J ((if i = S.nS then plainCt else S.ct i).much j)
      have hj2 : j < (if i = S.nS then plainCt else S.ct i).nf := hj
      by_cases q : i = S.nS
      · rw [if_pos q] at hj2; simp [plainCt, PSt.nS_s_nS, PSt.sg_s_nS, PSt.ct_s_nS, PSt.stamp_s_nS, PSt.nS_s_sg, PSt.sg_s_sg, PSt.ct_s_sg, PSt.stamp_s_sg, PSt.nS_s_ct, PSt.sg_s_ct, PSt.ct_s_ct, PSt.stamp_s_ct, PSt.nS_s_stamp, PSt.sg_s_stamp, PSt.ct_s_stamp, PSt.stamp_s_stamp, PSg.g_voices, PSg.g_tongues, PSg.g_size, PCt.g_rest, PCt.g_day, PCt.g_week, PCt.g_voice, PCt.g_nl, PCt.g_lf, PCt.g_lt, PCt.g_nf, PCt.g_much, PCt.g_cd] at hj2
      · rw [if_neg q] at hj2 ⊢; exact k.much i j (by have : i < S.nS + 1 := hi; omega) hj2
    · intro i j hi hj
      have hj2 : j < (if i = S.nS then plainCt else S.ct i).nf := hj
      by_cases q : i = S.nS
      · rw [if_pos q] at hj2; simp [plainCt, PSt.nS_s_nS, PSt.sg_s_nS, PSt.ct_s_nS, PSt.stamp_s_nS, PSt.nS_s_sg, PSt.sg_s_sg, PSt.ct_s_sg, PSt.stamp_s_sg, PSt.nS_s_ct, PSt.sg_s_ct, PSt.ct_s_ct, PSt.stamp_s_ct, PSt.nS_s_stamp, PSt.sg_s_stamp, PSt.ct_s_stamp, PSt.stamp_s_stamp, PSg.g_voices, PSg.g_tongues, PSg.g_size, PCt.g_rest, PCt.g_day, PCt.g_week, PCt.g_voice, PCt.g_nl, PCt.g_lf, PCt.g_lt, PCt.g_nf, PCt.g_much, PCt.g_cd] at hj2
      · rw [if_neg q] at hj2
        have e := k.code i j (by have : i < S.nS + 1 := hi; omega) hj2
        have e2 : (if i = S.nS then plainCt else S.ct i) = S.ct i := if_neg q
        rw [← e2] at e
        exact e
    · exact ⟨fun s i q => by show sA (th0 FI) 1 0 _ s i = _; rw [sA_ne _ _ q]; exact sA_ne _ _ q, fun s q => by
        show plA _ S.nS s = AI s
        rw [plA_ne _ _ (by omega) (by omega) (by omega), sA_site _ _ _ (by omega), sA_site _ _ _ (by omega), sA_site _ _ _ (by omega)]⟩
end
end
