noncomputable section
set_option linter.unusedVariables false
set_option linter.unusedSimpArgs false
/-! PLAIN 32: the twin's public operations, 7: feed, opera -/
theorem nar_byte (y : Int32) : vp_nar .byte (y.toInt8.toInt32) = J y.toInt8.toInt := by
  rw [vp_nar_byte, Int8.toInt8_toInt32]
  rw [J_def, Int32.ofInt_int8ToInt]
theorem i8b (x : Int8) : -128 ≤ x.toInt ∧ x.toInt < 128 := ⟨Int8.le_toInt x, Int8.toInt_lt x⟩
/-- how much is on the tape, is written -/
def l2 (X : OhI) (v : Int32) : OhI := sA X 1 0 (uA (X 1 0) 2 v)
theorem l2_l2 (X : OhI) (a b : Int32) : l2 (l2 X a) b = l2 X b := by
  unfold l2
  rw [sA_sA, sA_same]
  congr 1
  funext j
  by_cases q : j = 2 <;> simp [uA_at, q]
theorem l2_at (X : OhI) (v : Int32) : l2 X v 1 0 2 = v := by unfold l2; rw [sA_same, uA_same]
theorem l2_ne (X : OhI) (v : Int32) {k : Nat} (h : k ≠ 2) : l2 X v 1 0 k = X 1 0 k := by unfold l2; rw [sA_same, uA_ne _ _ h]
section
variable {S : PSt} {FI AI : OhI} {n : Nat} {FR : OhQ} {AN : OhN}
theorem q4_four (hn : 10000 ≤ n) {l : Nat} {tp : Nat → Int} {v : Int32} (hl : l + 4 ≤ 340) (h2 : FI 1 0 2 = J (l : Int)) (ht : ∀ k, k < 340 → AI 101 0 k = J (tp k)) :
    ∃ A, mX4_four n FI FR AI AN v = some (l2 FI (J ((l + 4 : Nat) : Int)), A) ∧ eqx [101] AI A ∧ ∀ k, k < 340 → A 101 0 k = J (tape4 tp l v k) := by
  have key : wp (lpF (fun w : Int32 × OhI × OhI => mX4_four_b3 n w.2.1 FR w.2.2 AN v w.1) n (J 24, FI, AI)) (fun r => ∃ A, r = (sA FI 1 0 (uA (FI 1 0) 2 (J ((l + 4 : Nat) : Int))), A) ∧ eqx [101] AI A ∧ ∀ k, k < 340 → A 101 0 k = J (tape4 tp l v k)) := by
    refine wp_for 4 (fun m a => ∃ A, a = (J (24 - 8 * (m : Int)), sA FI 1 0 (uA (FI 1 0) 2 (J ((l + m : Nat) : Int))), A) ∧ eqx [101] AI A ∧ ∀ k, k < 340 → A 101 0 k = J (if l ≤ k ∧ k < l + m then byteAt v (k - l) else tp k)) ?_ (k0 := 0) ⟨AI, ?_, eqx_refl, fun k hk => by rw [if_neg (by omega)]; exact ht k hk⟩ (by omega) (by omega)
    · rintro m a hm ⟨A, rfl, x, hA⟩
      dsimp only
      have e1 : sA FI 1 0 (uA (FI 1 0) 2 (J ((l + m : Nat) : Int))) 1 0 2 = J ((l + m : Nat) : Int) := by rw [sA_same, uA_same]
      unfold mX4_four_b3
      by_cases e : m = 4
      · subst e
        ((repeat' (first | ((with_reducible apply wp_let); try dsimp only) | ((with_reducible apply wp_gdJ); (focus (first | ((simp (disch := omega) only [J_lit, J_add, J_sub, J_mul, J_neg, J_n, jle, jlt, jeq, jnn, jnat, Int.toNat_natCast, bJ_0, bJ_1, bft, gd_T, nar_J, nar_0, nar_1, if_true, if_false, Option.bind_some, gd_t]); rfl) | rfl)); (focus (first | exact True.intro | (first | exact vp_J (by omega) (by omega) (by omega) | omega)))) | ((with_reducible apply wp_ifJT); (focus (first | ((simp (disch := omega) only [J_lit, J_add, J_sub, J_mul, J_neg, J_n, jle, jlt, jeq, jnn, jnat, Int.toNat_natCast, bJ_0, bJ_1, bft, gd_T, nar_J, nar_0, nar_1, if_true, if_false, Option.bind_some, gd_t, decide_eq_false_iff_not, decide_eq_true_eq]); rfl) | rfl)); (focus (first | exact True.intro | omega))) | ((with_reducible apply wp_ifJF); (focus (first | ((simp (disch := omega) only [J_lit, J_add, J_sub, J_mul, J_neg, J_n, jle, jlt, jeq, jnn, jnat, Int.toNat_natCast, bJ_0, bJ_1, bft, gd_T, nar_J, nar_0, nar_1, if_true, if_false, Option.bind_some, gd_t, decide_eq_false_iff_not, decide_eq_true_eq]); rfl) | rfl)); (focus (first | exact not_false | omega))) | ((with_reducible apply wp_ifJ); (focus (first | ((simp (disch := omega) only [J_lit, J_add, J_sub, J_mul, J_neg, J_n, jle, jlt, jeq, jnn, jnat, Int.toNat_natCast, bJ_0, bJ_1, bft, gd_T, nar_J, nar_0, nar_1, if_true, if_false, Option.bind_some, gd_t, decide_eq_false_iff_not, decide_eq_true_eq]); rfl) | rfl)); all_goals intro _) | (with_reducible apply wp_some) | ((with_reducible apply wp_eli); try dsimp only) | ((with_reducible apply wp_elr); try dsimp only) | ((with_reducible apply wp_bindE); (focus ((simp (disch := omega) only [J_lit, J_add, J_sub, J_mul, J_neg, J_n, jle, jlt, jeq, jnn, jnat, Int.toNat_natCast, bJ_0, bJ_1, bft, gd_T, nar_J, nar_0, nar_1, if_true, if_false, Option.bind_some, gd_t]); rfl)); try dsimp only) | (with_reducible apply wp_bind))); all_goals (try (simp (disch := omega) only [J_lit, J_add, J_sub, J_mul, J_neg, J_n, jle, jlt, jeq, jnn, jnat, Int.toNat_natCast, bJ_0, bJ_1, bft, gd_T, nar_J, nar_0, nar_1, if_true, if_false, Option.bind_some, gd_t])))
        exact ⟨A, rfl, x, hA⟩
      · ((repeat' (first | ((with_reducible apply wp_let); try dsimp only) | ((with_reducible apply wp_gdJ); (focus (first | ((simp (disch := omega) only [J_lit, J_add, J_sub, J_mul, J_neg, J_n, jle, jlt, jeq, jnn, jnat, Int.toNat_natCast, bJ_0, bJ_1, bft, gd_T, nar_J, nar_0, nar_1, if_true, if_false, Option.bind_some, gd_t, e1]); rfl) | rfl)); (focus (first | exact True.intro | (first | exact vp_J (by omega) (by omega) (by omega) | omega)))) | ((with_reducible apply wp_ifJT); (focus (first | ((simp (disch := omega) only [J_lit, J_add, J_sub, J_mul, J_neg, J_n, jle, jlt, jeq, jnn, jnat, Int.toNat_natCast, bJ_0, bJ_1, bft, gd_T, nar_J, nar_0, nar_1, if_true, if_false, Option.bind_some, gd_t, decide_eq_false_iff_not, decide_eq_true_eq, e1]); rfl) | rfl)); (focus (first | exact True.intro | omega))) | ((with_reducible apply wp_ifJF); (focus (first | ((simp (disch := omega) only [J_lit, J_add, J_sub, J_mul, J_neg, J_n, jle, jlt, jeq, jnn, jnat, Int.toNat_natCast, bJ_0, bJ_1, bft, gd_T, nar_J, nar_0, nar_1, if_true, if_false, Option.bind_some, gd_t, decide_eq_false_iff_not, decide_eq_true_eq, e1]); rfl) | rfl)); (focus (first | exact not_false | omega))) | ((with_reducible apply wp_ifJ); (focus (first | ((simp (disch := omega) only [J_lit, J_add, J_sub, J_mul, J_neg, J_n, jle, jlt, jeq, jnn, jnat, Int.toNat_natCast, bJ_0, bJ_1, bft, gd_T, nar_J, nar_0, nar_1, if_true, if_false, Option.bind_some, gd_t, decide_eq_false_iff_not, decide_eq_true_eq, e1]); rfl) | rfl)); all_goals intro _) | (with_reducible apply wp_some) | ((with_reducible apply wp_eli); try dsimp only) | ((with_reducible apply wp_elr); try dsimp only) | ((with_reducible apply wp_bindE); (focus ((simp (disch := omega) only [J_lit, J_add, J_sub, J_mul, J_neg, J_n, jle, jlt, jeq, jnn, jnat, Int.toNat_natCast, bJ_0, bJ_1, bft, gd_T, nar_J, nar_0, nar_1, if_true, if_false, Option.bind_some, gd_t, e1]); rfl)); try dsimp only) | (with_reducible apply wp_bind))); all_goals (try (simp (disch := omega) only [J_lit, J_add, J_sub, J_mul, J_neg, J_n, jle, jlt, jeq, jnn, jnat, Int.toNat_natCast, bJ_0, bJ_1, bft, gd_T, nar_J, nar_0, nar_1, if_true, if_false, Option.bind_some, gd_t, e1])))
        refine ⟨by omega, sA A 101 0 (uA (A 101 0) (l + m) (J (byteAt v m))), ?_, eqx_trans x (eqx_sA (by decide)), fun k hk => ?_⟩
        · simp only [Prod.mk.injEq]
          refine ⟨congrArg J (by omega), ?_, ?_⟩
          · rw [sA_sA, sA_same]
            congr 1
            funext j
            by_cases q : j = 2 <;> simp [uA_at, q]
            exact congrArg J (by omega)
          · rw [nar_byte]; rfl
        · rw [sA_same]
          by_cases q : k = l + m
          · rw [q, uA_same, if_pos (by omega), show l + m - l = m by omega]
          · rw [uA_ne _ _ q, hA k hk]
            by_cases q2 : l ≤ k ∧ k < l + m
            · rw [if_pos q2, if_pos (by omega)]
            · rw [if_neg q2, if_neg (by omega)]
    · simp only [Prod.mk.injEq, and_true]
      refine ⟨rfl, ?_⟩
      funext s i
      by_cases q : s = 1 ∧ i = 0
      · rw [q.1, q.2, sA_same]; funext j; by_cases q2 : j = 2
        · subst q2; rw [uA_same, h2]; rfl
        · rw [uA_ne _ _ q2]
      · rw [sA_ne _ _ q]
  obtain ⟨r, e, A, rfl, x, h⟩ := key
  refine ⟨A, wp_eq ?_, x, h⟩
  unfold mX4_four
  ((repeat' (first | ((with_reducible apply wp_let); try dsimp only) | ((with_reducible apply wp_gdJ); (focus (first | ((simp (disch := omega) only [J_lit, J_add, J_sub, J_mul, J_neg, J_n, jle, jlt, jeq, jnn, jnat, Int.toNat_natCast, bJ_0, bJ_1, bft, gd_T, nar_J, nar_0, nar_1, if_true, if_false, Option.bind_some, gd_t, e]); rfl) | rfl)); (focus (first | exact True.intro | (first | exact vp_J (by omega) (by omega) (by omega) | omega)))) | ((with_reducible apply wp_ifJT); (focus (first | ((simp (disch := omega) only [J_lit, J_add, J_sub, J_mul, J_neg, J_n, jle, jlt, jeq, jnn, jnat, Int.toNat_natCast, bJ_0, bJ_1, bft, gd_T, nar_J, nar_0, nar_1, if_true, if_false, Option.bind_some, gd_t, decide_eq_false_iff_not, decide_eq_true_eq, e]); rfl) | rfl)); (focus (first | exact True.intro | omega))) | ((with_reducible apply wp_ifJF); (focus (first | ((simp (disch := omega) only [J_lit, J_add, J_sub, J_mul, J_neg, J_n, jle, jlt, jeq, jnn, jnat, Int.toNat_natCast, bJ_0, bJ_1, bft, gd_T, nar_J, nar_0, nar_1, if_true, if_false, Option.bind_some, gd_t, decide_eq_false_iff_not, decide_eq_true_eq, e]); rfl) | rfl)); (focus (first | exact not_false | omega))) | ((with_reducible apply wp_ifJ); (focus (first | ((simp (disch := omega) only [J_lit, J_add, J_sub, J_mul, J_neg, J_n, jle, jlt, jeq, jnn, jnat, Int.toNat_natCast, bJ_0, bJ_1, bft, gd_T, nar_J, nar_0, nar_1, if_true, if_false, Option.bind_some, gd_t, decide_eq_false_iff_not, decide_eq_true_eq, e]); rfl) | rfl)); all_goals intro _) | (with_reducible apply wp_some) | ((with_reducible apply wp_eli); try dsimp only) | ((with_reducible apply wp_elr); try dsimp only) | ((with_reducible apply wp_bindE); (focus ((simp (disch := omega) only [J_lit, J_add, J_sub, J_mul, J_neg, J_n, jle, jlt, jeq, jnn, jnat, Int.toNat_natCast, bJ_0, bJ_1, bft, gd_T, nar_J, nar_0, nar_1, if_true, if_false, Option.bind_some, gd_t, e]); rfl)); try dsimp only) | (with_reducible apply wp_bind))); all_goals (try (simp (disch := omega) only [J_lit, J_add, J_sub, J_mul, J_neg, J_n, jle, jlt, jeq, jnn, jnat, Int.toNat_natCast, bJ_0, bJ_1, bft, gd_T, nar_J, nar_0, nar_1, if_true, if_false, Option.bind_some, gd_t, e])))
  rfl
theorem m4_feed (hS : PStOk S) (h : MInv S FI AI) (hn : 10000 ≤ n) (a b c d e : Int32) : wp (mX4_feed n FI FR AI AN a b c d e) (MOk (oFeed S a b c d e).2 (oFeed S a b c d e).1 FI AI) := by
  have k := h.th0_
  have ht := hS.taped
  unfold mX4_feed oFeed
  by_cases q : S.taped + 20 ≤ 340
  · obtain ⟨A1, e1, x1, t1⟩ := q4_four (n := n) (FR := FR) (AN := AN) (FI := th0 FI) (AI := AI) (v := a) hn (l := S.taped) (by omega) k.taped k.tape
    obtain ⟨A2, e2, x2, t2⟩ := q4_four (n := n) (FR := FR) (AN := AN) (v := b) (FI := l2 (th0 FI) (J ((S.taped + 4 : Nat) : Int))) hn (l := S.taped + 4) (by omega) (l2_at _ _) t1
    obtain ⟨A3, e3, x3, t3⟩ := q4_four (n := n) (FR := FR) (AN := AN) (v := c) (FI := l2 (th0 FI) (J ((S.taped + 8 : Nat) : Int))) hn (l := S.taped + 8) (by omega) (l2_at _ _) t2
    obtain ⟨A4, e4, x4, t4⟩ := q4_four (n := n) (FR := FR) (AN := AN) (v := d) (FI := l2 (th0 FI) (J ((S.taped + 12 : Nat) : Int))) hn (l := S.taped + 12) (by omega) (l2_at _ _) t3
    obtain ⟨A5, e5, x5, t5⟩ := q4_four (n := n) (FR := FR) (AN := AN) (v := e) (FI := l2 (th0 FI) (J ((S.taped + 16 : Nat) : Int))) hn (l := S.taped + 16) (by omega) (l2_at _ _) t4
    rw [l2_l2] at e2 e3 e4 e5
    have e2' : mX4_four n (l2 (th0 FI) (J ((S.taped + 4 : Nat) : Int))) FR A1 AN b = some (l2 (th0 FI) (J ((S.taped + 8 : Nat) : Int)), A2) := e2
    have e3' : mX4_four n (l2 (th0 FI) (J ((S.taped + 8 : Nat) : Int))) FR A2 AN c = some (l2 (th0 FI) (J ((S.taped + 12 : Nat) : Int)), A3) := e3
    have e4' : mX4_four n (l2 (th0 FI) (J ((S.taped + 12 : Nat) : Int))) FR A3 AN d = some (l2 (th0 FI) (J ((S.taped + 16 : Nat) : Int)), A4) := e4
    have e5' : mX4_four n (l2 (th0 FI) (J ((S.taped + 16 : Nat) : Int))) FR A4 AN e = some (l2 (th0 FI) (J ((S.taped + 20 : Nat) : Int)), A5) := e5
    have z : eqx [101] AI A5 := eqx_trans x1 (eqx_trans x2 (eqx_trans x3 (eqx_trans x4 x5)))
    ((repeat' (first | ((with_reducible apply wp_let); try dsimp only) | ((with_reducible apply wp_gdJ); (focus (first | ((simp (disch := omega) only [J_lit, J_add, J_sub, J_mul, J_neg, J_n, jle, jlt, jeq, jnn, jnat, Int.toNat_natCast, bJ_0, bJ_1, bft, gd_T, nar_J, nar_0, nar_1, if_true, if_false, Option.bind_some, gd_t, fold0, k.taped, e1, e2', e3', e4', e5', l2_at]); rfl) | rfl)); (focus (first | exact True.intro | (first | exact vp_J (by omega) (by omega) (by omega) | omega)))) | ((with_reducible apply wp_ifJT); (focus (first | ((simp (disch := omega) only [J_lit, J_add, J_sub, J_mul, J_neg, J_n, jle, jlt, jeq, jnn, jnat, Int.toNat_natCast, bJ_0, bJ_1, bft, gd_T, nar_J, nar_0, nar_1, if_true, if_false, Option.bind_some, gd_t, decide_eq_false_iff_not, decide_eq_true_eq, fold0, k.taped, e1, e2', e3', e4', e5', l2_at]); rfl) | rfl)); (focus (first | exact True.intro | omega))) | ((with_reducible apply wp_ifJF); (focus (first | ((simp (disch := omega) only [J_lit, J_add, J_sub, J_mul, J_neg, J_n, jle, jlt, jeq, jnn, jnat, Int.toNat_natCast, bJ_0, bJ_1, bft, gd_T, nar_J, nar_0, nar_1, if_true, if_false, Option.bind_some, gd_t, decide_eq_false_iff_not, decide_eq_true_eq, fold0, k.taped, e1, e2', e3', e4', e5', l2_at]); rfl) | rfl)); (focus (first | exact not_false | omega))) | ((with_reducible apply wp_ifJ); (focus (first | ((simp (disch := omega) only [J_lit, J_add, J_sub, J_mul, J_neg, J_n, jle, jlt, jeq, jnn, jnat, Int.toNat_natCast, bJ_0, bJ_1, bft, gd_T, nar_J, nar_0, nar_1, if_true, if_false, Option.bind_some, gd_t, decide_eq_false_iff_not, decide_eq_true_eq, fold0, k.taped, e1, e2', e3', e4', e5', l2_at]); rfl) | rfl)); all_goals intro _) | (with_reducible apply wp_some) | ((with_reducible apply wp_eli); try dsimp only) | ((with_reducible apply wp_elr); try dsimp only) | ((with_reducible apply wp_bindE); (focus ((simp (disch := omega) only [J_lit, J_add, J_sub, J_mul, J_neg, J_n, jle, jlt, jeq, jnn, jnat, Int.toNat_natCast, bJ_0, bJ_1, bft, gd_T, nar_J, nar_0, nar_1, if_true, if_false, Option.bind_some, gd_t, fold0, k.taped, e1, e2', e3', e4', e5', l2_at]); rfl)); try dsimp only) | (with_reducible apply wp_bind))); all_goals (try (simp (disch := omega) only [J_lit, J_add, J_sub, J_mul, J_neg, J_n, jle, jlt, jeq, jnn, jnat, Int.toNat_natCast, bJ_0, bJ_1, bft, gd_T, nar_J, nar_0, nar_1, if_true, if_false, Option.bind_some, gd_t, fold0, k.taped, e1, e2', e3', e4', e5', l2_at])))
    rw [if_pos q]
    have kf : ∀ j, j ≠ 2 → l2 (th0 FI) (J ((S.taped + 20 : Nat) : Int)) 1 0 j = th0 FI 1 0 j := fun j hj => l2_ne _ _ hj
    have m0 : MSt S (l2 (th0 FI) (J ((S.taped + 20 : Nat) : Int))) A5 := k.toMSt.congr (fun j hj => kf j (by rintro rfl; revert hj; decide)) (fun s hs => by rw [z s (by intro q; revert hs; revert q; revert s; decide)])
    have m1 : MCa S.nC S.ca A5 := k.toMCa.congr (fun s hs => by rw [z s (by intro q; revert hs; revert q; revert s; decide)])
    refine ⟨rfl, (MInv.mk (toMCore := MCore.mk (toMSt := m0) (toMCa := m1) (today := (kf 5 (by decide)).trans k.today)) (taped := l2_at (th0 FI) _) (tape := t5) (stamp := (kf 6 (by decide)).trans k.stamp) (fault := (kf 44 (by decide)).trans k.fault) (nF := (kf 89 (by decide)).trans k.nF) (fk := fun i hi => by show A5 190 0 i = _; rw [z 190 (by decide)]; exact k.fk i hi) (fc := fun i hi => by show A5 191 0 i = _; rw [z 191 (by decide)]; exact k.fc i hi) (fr := fun i hi => by show A5 192 0 i = _; rw [z 192 (by decide)]; exact k.fr i hi) (laidN := (kf 98 (by decide)).trans k.laidN) (laidDay := fun i hi => by show A5 195 0 i = _; rw [z 195 (by decide)]; exact k.laidDay i hi) (laidOp := fun i hi => by show A5 196 0 i = _; rw [z 196 (by decide)]; exact k.laidOp i hi) (laidHour := fun q => (kf 99 (by decide)).trans (k.laidHour q)) (laidStamp := fun q => (kf 100 (by decide)).trans (k.laidStamp q))), ?_⟩
    refine ⟨fun s i q => ?_, fun s q => z s (by intro hs; revert q; revert hs; revert s; decide)⟩
    show l2 (th0 FI) _ s i = FI s i
    unfold l2 th0
    rw [sA_ne _ _ q, sA_ne _ _ q]
  · ((repeat' (first | ((with_reducible apply wp_let); try dsimp only) | ((with_reducible apply wp_gdJ); (focus (first | ((simp (disch := omega) only [J_lit, J_add, J_sub, J_mul, J_neg, J_n, jle, jlt, jeq, jnn, jnat, Int.toNat_natCast, bJ_0, bJ_1, bft, gd_T, nar_J, nar_0, nar_1, if_true, if_false, Option.bind_some, gd_t, fold0, k.taped]); rfl) | rfl)); (focus (first | exact True.intro | (first | exact vp_J (by omega) (by omega) (by omega) | omega)))) | ((with_reducible apply wp_ifJT); (focus (first | ((simp (disch := omega) only [J_lit, J_add, J_sub, J_mul, J_neg, J_n, jle, jlt, jeq, jnn, jnat, Int.toNat_natCast, bJ_0, bJ_1, bft, gd_T, nar_J, nar_0, nar_1, if_true, if_false, Option.bind_some, gd_t, decide_eq_false_iff_not, decide_eq_true_eq, fold0, k.taped]); rfl) | rfl)); (focus (first | exact True.intro | omega))) | ((with_reducible apply wp_ifJF); (focus (first | ((simp (disch := omega) only [J_lit, J_add, J_sub, J_mul, J_neg, J_n, jle, jlt, jeq, jnn, jnat, Int.toNat_natCast, bJ_0, bJ_1, bft, gd_T, nar_J, nar_0, nar_1, if_true, if_false, Option.bind_some, gd_t, decide_eq_false_iff_not, decide_eq_true_eq, fold0, k.taped]); rfl) | rfl)); (focus (first | exact not_false | omega))) | ((with_reducible apply wp_ifJ); (focus (first | ((simp (disch := omega) only [J_lit, J_add, J_sub, J_mul, J_neg, J_n, jle, jlt, jeq, jnn, jnat, Int.toNat_natCast, bJ_0, bJ_1, bft, gd_T, nar_J, nar_0, nar_1, if_true, if_false, Option.bind_some, gd_t, decide_eq_false_iff_not, decide_eq_true_eq, fold0, k.taped]); rfl) | rfl)); all_goals intro _) | (with_reducible apply wp_some) | ((with_reducible apply wp_eli); try dsimp only) | ((with_reducible apply wp_elr); try dsimp only) | ((with_reducible apply wp_bindE); (focus ((simp (disch := omega) only [J_lit, J_add, J_sub, J_mul, J_neg, J_n, jle, jlt, jeq, jnn, jnat, Int.toNat_natCast, bJ_0, bJ_1, bft, gd_T, nar_J, nar_0, nar_1, if_true, if_false, Option.bind_some, gd_t, fold0, k.taped]); rfl)); try dsimp only) | (with_reducible apply wp_bind))); all_goals (try (simp (disch := omega) only [J_lit, J_add, J_sub, J_mul, J_neg, J_n, jle, jlt, jeq, jnn, jnat, Int.toNat_natCast, bJ_0, bJ_1, bft, gd_T, nar_J, nar_0, nar_1, if_true, if_false, Option.bind_some, gd_t, fold0, k.taped])))
    rw [if_neg q]; exact MOk0 h
end
end
