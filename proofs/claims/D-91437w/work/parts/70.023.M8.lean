noncomputable section
set_option linter.unusedVariables false
set_option linter.unusedSimpArgs false
/-! PLAIN 11: conditions as piles (twin) -/
/-- the steps lie in the rows of a singer -/
def stp (AI : OhI) (s : Nat) (k : Int) (L : List (Int × Int × Int)) : Prop := ∀ (i : Nat) (x : Int × Int × Int), L[i]? = some x → AI 133 0 (100 * (s : Int) + k + (i : Int)).toNat = J x.1 ∧ AI 134 0 (100 * (s : Int) + k + (i : Int)).toNat = J x.2.1 ∧ AI 135 0 (100 * (s : Int) + k + (i : Int)).toNat = J x.2.2
theorem stp_l {AI : OhI} {s : Nat} {k : Int} {L M : List (Int × Int × Int)} (h : stp AI s k (L ++ M)) : stp AI s k L := by
  intro i x e
  exact h i x (by rw [List.getElem?_append_left (by exact (List.getElem?_eq_some_iff.mp e).1)]; exact e)
theorem stp_r {AI : OhI} {s : Nat} {k : Int} {L M : List (Int × Int × Int)} (h : stp AI s k (L ++ M)) : stp AI s (k + L.length) M := by
  intro i x e
  have := h (L.length + i) x (by rw [List.getElem?_append_right (by omega), Nat.add_sub_cancel_left]; exact e)
  rw [show 100 * (s : Int) + (k + (L.length : Int)) + (i : Int) = 100 * (s : Int) + k + ((L.length + i : Nat) : Int) by omega]
  exact this
theorem stp_c {AI AI2 : OhI} {s : Nat} {k : Int} {L : List (Int × Int × Int)} (h : stp AI s k L) (e : eqx [179] AI AI2) : stp AI2 s k L := by
  intro i x q
  have := h i x q
  rw [e 133 (by decide), e 134 (by decide), e 135 (by decide)]
  exact this
theorem PCd.code_len : ∀ q : PCd, q.ones ≤ q.code.length ∧ q.code.length + 1 ≤ 2 * q.ones
  | .leaf (.inl _) => by simp [PCd.ones, PCd.code]
  | .leaf (.inr (_, _, _)) => by simp [PCd.ones, PCd.code]
  | .branch 0 c _ => by have := PCd.code_len c; simp only [PCd.ones, PCd.code, List.length_append, List.length_singleton]; omega
  | .branch 1 c d => by have := PCd.code_len c; have := PCd.code_len d; simp only [PCd.ones, PCd.code, List.length_append, List.length_singleton]; omega
  | .branch (_ + 2) c d => by have := PCd.code_len c; have := PCd.code_len d; simp only [PCd.ones, PCd.code, List.length_append, List.length_singleton]; omega
theorem PCd.ones_pos : ∀ q : PCd, 1 ≤ q.ones
  | .leaf (.inl _) => Nat.le_refl _
  | .leaf (.inr _) => Nat.le_refl _
  | .branch 0 c _ => by simp only [PCd.ones]; omega
  | .branch 1 c d => by have := PCd.ones_pos c; simp only [PCd.ones]; omega
  | .branch (_ + 2) c d => by have := PCd.ones_pos c; simp only [PCd.ones]; omega
section
variable {T : PTb} {FI AI : OhI} {n : Nat} {FR : OhQ} {AN : OhN}
theorem natP (m : Nat) : ((m : Int) + 1).toNat = m + 1 := rfl
theorem ask_num_b (hT : PTbOk T) {s c : Nat} (hs : s < T.S.nS) (hc : c < T.all) (a : Nat) : 0 ≤ (T.ask s c).num a ∧ (T.ask s c).num a ≤ 400 := by
  have hb := hT.b hc
  have c1 := (hT.S.ct s hs).day
  have b2 := dayHours_b hT (s := s) hc
  have b3 := nights_b hT (s := s) (d := 1000) hc
  unfold PAsk.num PTb.ask PTb.long
  simp only [PAsk.g_kind, PAsk.g_hours, PAsk.g_nth, PAsk.g_over, PAsk.g_late, PAsk.g_cover, PAsk.g_instead]
  (repeat' split) <;> omega
/-- what one operand leaves behind: one truth more on the pile -/
def soP (T : PTb) (FI AI AI2 : OhI) (m : Nat) (b : Bool) : Prop := eqx [179] AI AI2 ∧ (∀ j, j < m → AI2 179 0 j = AI 179 0 j) ∧ AI2 179 0 m = bJ b
theorem q4_so1 (h : MTb T FI AI) (hT : PTbOk T) (hn : 10000 ≤ n) {s c m : Nat} {to k : Int} (hs : s < T.S.nS) (hc : c < T.all) (hk : 0 ≤ k) (hm : m < 64) (hto : to ≤ 100) :
    ∀ (q : PCd), q.ok → m + q.ones ≤ 64 → k + q.code.length ≤ to → stp AI s k q.code →
    ∃ AI2, soP T FI AI AI2 m (q.holds (T.ask s c)) ∧ goesF (fun v : Int32 × Int32 × OhI => mX4_isSo_b11 n FR v.2.2 AN (J s) (J c) (J to) (bJ (T.isCast s c)) v.1 v.2.1) q.code.length (J m, J (100 * (s : Int) + k), AI) (J (m + 1), J (100 * (s : Int) + k + q.code.length), AI2) := by
  intro q
  induction q generalizing AI m k with
  | leaf z =>
   match z with
   | .inl a =>
    intro hok ho hl hst
    have hS := hT.S.nS
    have e1 := (hst 0 _ rfl).1
    simp only [Int.natCast_zero, Int.add_zero, PCd.code, List.length_singleton] at e1 hl
    simp only [PCd.ok] at hok
    refine ⟨sA AI 179 0 (uA (AI 179 0) m (bJ ((T.ask s c).is a))), ⟨eqx_sA (by decide), fun j hj => ?_, ?_⟩, goesF_one ?_⟩
    · rw [sA_same, uA_ne _ _ (by omega)]
    · rw [sA_same, uA_same]; rfl
    · apply wp_eq
      show wp (mX4_isSo_b11 n FR AI AN (J s) (J c) (J to) (bJ (T.isCast s c)) (J m) (J (100 * (s : Int) + k))) _
      unfold mX4_isSo_b11
      ((try (simp (disch := omega) only [J_lit, J_add, J_sub, J_mul, J_neg, J_n, jle, jlt, jeq, jnn, jnat, Int.toNat_natCast, bJ_0, bJ_1, bft, gd_T, nar_J, nar_0, nar_1, if_true, if_false, Option.bind_some, gd_t, e1, q4_asks h hT hn hs hc])); repeat' ((first | ((with_reducible apply wp_gd); (focus (first | exact vp_J (by omega) (by omega) (by omega) | omega))) | (with_reducible apply wp_let) | (with_reducible apply wp_some) | ((with_reducible apply wp_ifT); (focus omega)) | ((with_reducible apply wp_ifF); (focus omega)) | ((with_reducible apply wp_if) <;> intro _) | (with_reducible apply wp_bind)) <;> try (simp (disch := omega) only [J_lit, J_add, J_sub, J_mul, J_neg, J_n, jle, jlt, jeq, jnn, jnat, Int.toNat_natCast, bJ_0, bJ_1, bft, gd_T, nar_J, nar_0, nar_1, if_true, if_false, Option.bind_some, gd_t, e1, q4_asks h hT hn hs hc])))
      rfl
   | .inr (a, g, x) =>
    intro hok ho hl hst
    have hS := hT.S.nS
    have e1 := hst 0 _ rfl
    simp only [Int.natCast_zero, Int.add_zero, PCd.code, List.length_singleton] at e1 hl
    obtain ⟨e1, e2, e3⟩ := e1
    simp only [PCd.ok] at hok
    have b1 := ask_num_b hT (s := s) hs hc a
    refine ⟨sA AI 179 0 (uA (AI 179 0) m (bJ (PCd.holds (T.ask s c) (.leaf (.inr (a, g, x)))))), ⟨eqx_sA (by decide), fun j hj => ?_, ?_⟩, goesF_one ?_⟩
    · rw [sA_same, uA_ne _ _ (by omega)]
    · rw [sA_same, uA_same]
    · apply wp_eq
      show wp (mX4_isSo_b11 n FR AI AN (J s) (J c) (J to) (bJ (T.isCast s c)) (J m) (J (100 * (s : Int) + k))) _
      unfold mX4_isSo_b11 mX4_isSo_j290
      have hnum := q4_numberOf (n := n) (FR := FR) (AN := AN) h hT hn hs hc hok.1 hok.2.1
      ((repeat' (first | ((with_reducible apply wp_let); try dsimp only) | ((with_reducible apply wp_gdJ); (focus (first | ((simp (disch := omega) only [J_lit, J_add, J_sub, J_mul, J_neg, J_n, jle, jlt, jeq, jnn, jnat, Int.toNat_natCast, bJ_0, bJ_1, bft, gd_T, nar_J, nar_0, nar_1, if_true, if_false, Option.bind_some, gd_t, e1, e2, e3, hnum]); rfl) | rfl)); (focus (first | exact True.intro | (first | exact vp_J (by omega) (by omega) (by omega) | omega)))) | ((with_reducible apply wp_ifJT); (focus (first | ((simp (disch := omega) only [J_lit, J_add, J_sub, J_mul, J_neg, J_n, jle, jlt, jeq, jnn, jnat, Int.toNat_natCast, bJ_0, bJ_1, bft, gd_T, nar_J, nar_0, nar_1, if_true, if_false, Option.bind_some, gd_t, e1, e2, e3, hnum]); rfl) | rfl)); (focus (first | exact True.intro | omega))) | ((with_reducible apply wp_ifJF); (focus (first | ((simp (disch := omega) only [J_lit, J_add, J_sub, J_mul, J_neg, J_n, jle, jlt, jeq, jnn, jnat, Int.toNat_natCast, bJ_0, bJ_1, bft, gd_T, nar_J, nar_0, nar_1, if_true, if_false, Option.bind_some, gd_t, e1, e2, e3, hnum]); rfl) | rfl)); (focus (first | exact not_false | omega))) | ((with_reducible apply wp_ifJ); (focus (first | ((simp (disch := omega) only [J_lit, J_add, J_sub, J_mul, J_neg, J_n, jle, jlt, jeq, jnn, jnat, Int.toNat_natCast, bJ_0, bJ_1, bft, gd_T, nar_J, nar_0, nar_1, if_true, if_false, Option.bind_some, gd_t, e1, e2, e3, hnum]); rfl) | rfl)); all_goals intro _) | (with_reducible apply wp_some) | ((with_reducible apply wp_eli); try dsimp only) | ((with_reducible apply wp_elr); try dsimp only) | ((with_reducible apply wp_bindE); (focus ((simp (disch := omega) only [J_lit, J_add, J_sub, J_mul, J_neg, J_n, jle, jlt, jeq, jnn, jnat, Int.toNat_natCast, bJ_0, bJ_1, bft, gd_T, nar_J, nar_0, nar_1, if_true, if_false, Option.bind_some, gd_t, e1, e2, e3, hnum]); rfl)); try dsimp only) | (with_reducible apply wp_bind))); all_goals (try (simp (disch := omega) only [J_lit, J_add, J_sub, J_mul, J_neg, J_n, jle, jlt, jeq, jnn, jnat, Int.toNat_natCast, bJ_0, bJ_1, bft, gd_T, nar_J, nar_0, nar_1, if_true, if_false, Option.bind_some, gd_t, e1, e2, e3, hnum])))
      all_goals (simp only [PCd.holds])
      all_goals (first
        | (rw [if_pos (by omega)]; first | (rw [decide_eq_true (by omega)]; rfl) | (rw [decide_eq_false (by omega)]; rfl))
        | (rw [if_neg (by omega), if_pos (by omega)]; first | (rw [decide_eq_true (by omega)]; rfl) | (rw [decide_eq_false (by omega)]; rfl))
        | (rw [if_neg (by omega), if_neg (by omega)]; first | (rw [decide_eq_true (by omega)]; rfl) | (rw [decide_eq_false (by omega)]; rfl)))
  | branch lb q r ih1 ih2 =>
   match lb with
   | 0 =>
    intro hok ho hl hst
    have hS := hT.S.nS
    have hp := PCd.ones_pos q
    simp only [PCd.ok, PCd.ones, PCd.code, List.length_append, List.length_singleton] at hok ho hl hst
    obtain ⟨AI1, ⟨x1, x2, x3⟩, g1⟩ := ih1 h hk hm hok (by omega) (by omega) (stp_l hst)
    have e1 := (stp_c (stp_r hst) x1 0 _ rfl).1
    simp only [Int.natCast_zero, Int.add_zero] at e1
    refine ⟨sA AI1 179 0 (uA (AI1 179 0) m (bJ (!PCd.holds (T.ask s c) q))), ⟨eqx_trans x1 (eqx_sA (by decide)), fun j hj => ?_, ?_⟩, ?_⟩
    · rw [sA_same, uA_ne _ _ (by omega)]; exact x2 j hj
    · rw [sA_same, uA_same]; rfl
    · simp only [PCd.code, List.length_append, List.length_singleton]
      refine goesF_trans g1 (goesF_one ?_)
      apply wp_eq
      show wp (mX4_isSo_b11 n FR AI1 AN (J s) (J c) (J to) (bJ (T.isCast s c)) (J (m + 1)) (J (100 * (s : Int) + k + (PCd.code q).length))) _
      rw [show 100 * (s : Int) + (k + ((PCd.code q).length : Int)) = 100 * (s : Int) + k + ((PCd.code q).length : Int) by omega] at e1
      unfold mX4_isSo_b11 mX4_isSo_j64
      ((repeat' (first | ((with_reducible apply wp_let); try dsimp only) | ((with_reducible apply wp_gdJ); (focus (first | ((simp (disch := omega) only [J_lit, J_add, J_sub, J_mul, J_neg, J_n, jle, jlt, jeq, jnn, jnat, Int.toNat_natCast, bJ_0, bJ_1, bft, gd_T, nar_J, nar_0, nar_1, if_true, if_false, Option.bind_some, gd_t, e1, x3, Int.add_sub_cancel]); rfl) | rfl)); (focus (first | exact True.intro | (first | exact vp_J (by omega) (by omega) (by omega) | omega)))) | ((with_reducible apply wp_ifJT); (focus (first | ((simp (disch := omega) only [J_lit, J_add, J_sub, J_mul, J_neg, J_n, jle, jlt, jeq, jnn, jnat, Int.toNat_natCast, bJ_0, bJ_1, bft, gd_T, nar_J, nar_0, nar_1, if_true, if_false, Option.bind_some, gd_t, e1, x3, Int.add_sub_cancel]); rfl) | rfl)); (focus (first | exact True.intro | omega))) | ((with_reducible apply wp_ifJF); (focus (first | ((simp (disch := omega) only [J_lit, J_add, J_sub, J_mul, J_neg, J_n, jle, jlt, jeq, jnn, jnat, Int.toNat_natCast, bJ_0, bJ_1, bft, gd_T, nar_J, nar_0, nar_1, if_true, if_false, Option.bind_some, gd_t, e1, x3, Int.add_sub_cancel]); rfl) | rfl)); (focus (first | exact not_false | omega))) | ((with_reducible apply wp_ifJ); (focus (first | ((simp (disch := omega) only [J_lit, J_add, J_sub, J_mul, J_neg, J_n, jle, jlt, jeq, jnn, jnat, Int.toNat_natCast, bJ_0, bJ_1, bft, gd_T, nar_J, nar_0, nar_1, if_true, if_false, Option.bind_some, gd_t, e1, x3, Int.add_sub_cancel]); rfl) | rfl)); all_goals intro _) | (with_reducible apply wp_some) | ((with_reducible apply wp_eli); try dsimp only) | ((with_reducible apply wp_elr); try dsimp only) | ((with_reducible apply wp_bindE); (focus ((simp (disch := omega) only [J_lit, J_add, J_sub, J_mul, J_neg, J_n, jle, jlt, jeq, jnn, jnat, Int.toNat_natCast, bJ_0, bJ_1, bft, gd_T, nar_J, nar_0, nar_1, if_true, if_false, Option.bind_some, gd_t, e1, x3, Int.add_sub_cancel]); rfl)); try dsimp only) | (with_reducible apply wp_bind))); all_goals (try (simp (disch := omega) only [J_lit, J_add, J_sub, J_mul, J_neg, J_n, jle, jlt, jeq, jnn, jnat, Int.toNat_natCast, bJ_0, bJ_1, bft, gd_T, nar_J, nar_0, nar_1, if_true, if_false, Option.bind_some, gd_t, e1, x3, Int.add_sub_cancel])))
      · rename_i hq; rw [hq]; exact congrArg Sum.inl (by rw [show 100 * (s : Int) + k + ((PCd.code q).length : Int) + 1 = 100 * (s : Int) + k + (((PCd.code q).length + 1 : Nat) : Int) by omega]; rfl)
      · rename_i hq; rw [Bool.not_eq_false] at hq; rw [hq]; exact congrArg Sum.inl (by rw [show 100 * (s : Int) + k + ((PCd.code q).length : Int) + 1 = 100 * (s : Int) + k + (((PCd.code q).length + 1 : Nat) : Int) by omega]; rfl)
   | 1 =>
    intro hok ho hl hst
    have hS := hT.S.nS
    have hp := PCd.ones_pos q
    have hp2 := PCd.ones_pos r
    simp only [PCd.ok, PCd.ones, PCd.code, List.length_append, List.length_singleton] at hok ho hl hst
    obtain ⟨AI1, ⟨x1, x2, x3⟩, g1⟩ := ih1 h hk hm hok.1 (by omega) (by omega) (stp_l (stp_l hst))
    have hst2 := stp_c (stp_r (stp_l hst)) x1
    obtain ⟨AI3, ⟨y1, y2, y3⟩, g2⟩ := ih2 (m := m + 1) (k := k + (PCd.code q).length) (h.eqx_ x1 (by decide)) (by omega) (by omega) hok.2 (by omega) (by omega) hst2
    have z1 := eqx_trans x1 y1
    have e1 := (stp_c (stp_r hst) z1 0 _ rfl).1
    have e2 := y2 m (by omega)
    rw [x3] at e2
    simp only [Int.natCast_zero, Int.add_zero, List.length_append] at e1
    refine ⟨sA AI3 179 0 (uA (AI3 179 0) m (bJ (PCd.holds (T.ask s c) (.branch 1 q r)))), ⟨eqx_trans z1 (eqx_sA (by decide)), fun j hj => ?_, ?_⟩, ?_⟩
    · rw [sA_same, uA_ne _ _ (by omega), y2 j (by omega)]; exact x2 j hj
    · rw [sA_same, uA_same]
    · simp only [PCd.code, List.length_append, List.length_singleton]
      refine goesF_trans (goesF_trans g1 ?_) (goesF_one (a := (J ((m : Int) + 1 + 1), J (100 * (s : Int) + k + ((PCd.code q).length + (PCd.code r).length : Nat)), AI3)) ?_)
      · have e9 : 100 * (s : Int) + (k + ((PCd.code q).length : Int)) + ((PCd.code r).length : Int) = 100 * (s : Int) + k + ((PCd.code q).length + (PCd.code r).length : Nat) := by omega
        have e8 : 100 * (s : Int) + k + ((PCd.code q).length : Int) = 100 * (s : Int) + (k + ((PCd.code q).length : Int)) := by omega
        rw [e9] at g2
        rw [e8]
        exact g2
      apply wp_eq
      show wp (mX4_isSo_b11 n FR AI3 AN (J s) (J c) (J to) (bJ (T.isCast s c)) (J ((m : Int) + 1 + 1)) (J (100 * (s : Int) + k + ((PCd.code q).length + (PCd.code r).length : Nat)))) _
      rw [show 100 * (s : Int) + (k + (((PCd.code q).length + (PCd.code r).length : Nat) : Int)) = 100 * (s : Int) + k + (((PCd.code q).length + (PCd.code r).length : Nat) : Int) by omega] at e1
      unfold mX4_isSo_b11 mX4_isSo_j82 mX4_isSo_j126 mX4_isSo_j152 mX4_isSo_j157
      ((repeat' (first | ((with_reducible apply wp_let); try dsimp only) | ((with_reducible apply wp_gdJ); (focus (first | ((simp (disch := omega) only [J_lit, J_add, J_sub, J_mul, J_neg, J_n, jle, jlt, jeq, jnn, jnat, Int.toNat_natCast, bJ_0, bJ_1, bft, gd_T, nar_J, nar_0, nar_1, if_true, if_false, Option.bind_some, gd_t, e1, e2, y3, Int.add_sub_cancel, Int.add_neg_cancel_right, natP]); rfl) | rfl)); (focus (first | exact True.intro | (first | exact vp_J (by omega) (by omega) (by omega) | omega)))) | ((with_reducible apply wp_ifJT); (focus (first | ((simp (disch := omega) only [J_lit, J_add, J_sub, J_mul, J_neg, J_n, jle, jlt, jeq, jnn, jnat, Int.toNat_natCast, bJ_0, bJ_1, bft, gd_T, nar_J, nar_0, nar_1, if_true, if_false, Option.bind_some, gd_t, e1, e2, y3, Int.add_sub_cancel, Int.add_neg_cancel_right, natP]); rfl) | rfl)); (focus (first | exact True.intro | omega))) | ((with_reducible apply wp_ifJF); (focus (first | ((simp (disch := omega) only [J_lit, J_add, J_sub, J_mul, J_neg, J_n, jle, jlt, jeq, jnn, jnat, Int.toNat_natCast, bJ_0, bJ_1, bft, gd_T, nar_J, nar_0, nar_1, if_true, if_false, Option.bind_some, gd_t, e1, e2, y3, Int.add_sub_cancel, Int.add_neg_cancel_right, natP]); rfl) | rfl)); (focus (first | exact not_false | omega))) | ((with_reducible apply wp_ifJ); (focus (first | ((simp (disch := omega) only [J_lit, J_add, J_sub, J_mul, J_neg, J_n, jle, jlt, jeq, jnn, jnat, Int.toNat_natCast, bJ_0, bJ_1, bft, gd_T, nar_J, nar_0, nar_1, if_true, if_false, Option.bind_some, gd_t, e1, e2, y3, Int.add_sub_cancel, Int.add_neg_cancel_right, natP]); rfl) | rfl)); all_goals intro _) | (with_reducible apply wp_some) | ((with_reducible apply wp_eli); try dsimp only) | ((with_reducible apply wp_elr); try dsimp only) | ((with_reducible apply wp_bindE); (focus ((simp (disch := omega) only [J_lit, J_add, J_sub, J_mul, J_neg, J_n, jle, jlt, jeq, jnn, jnat, Int.toNat_natCast, bJ_0, bJ_1, bft, gd_T, nar_J, nar_0, nar_1, if_true, if_false, Option.bind_some, gd_t, e1, e2, y3, Int.add_sub_cancel, Int.add_neg_cancel_right, natP]); rfl)); try dsimp only) | (with_reducible apply wp_bind))); all_goals (try (simp (disch := omega) only [J_lit, J_add, J_sub, J_mul, J_neg, J_n, jle, jlt, jeq, jnn, jnat, Int.toNat_natCast, bJ_0, bJ_1, bft, gd_T, nar_J, nar_0, nar_1, if_true, if_false, Option.bind_some, gd_t, e1, e2, y3, Int.add_sub_cancel, Int.add_neg_cancel_right, natP])))
      all_goals (refine congrArg Sum.inl ?_; rw [show 100 * (s : Int) + k + (((PCd.code q).length + (PCd.code r).length : Nat) : Int) + 1 = 100 * (s : Int) + k + (((PCd.code q).length + (PCd.code r).length + 1 : Nat) : Int) by omega]; simp_all [PCd.holds, bJ])
   | lb + 2 =>
    intro hok ho hl hst
    have hS := hT.S.nS
    have hp := PCd.ones_pos q
    have hp2 := PCd.ones_pos r
    simp only [PCd.ok, PCd.ones, PCd.code, List.length_append, List.length_singleton] at hok ho hl hst
    obtain ⟨AI1, ⟨x1, x2, x3⟩, g1⟩ := ih1 h hk hm hok.1 (by omega) (by omega) (stp_l (stp_l hst))
    have hst2 := stp_c (stp_r (stp_l hst)) x1
    obtain ⟨AI3, ⟨y1, y2, y3⟩, g2⟩ := ih2 (m := m + 1) (k := k + (PCd.code q).length) (h.eqx_ x1 (by decide)) (by omega) (by omega) hok.2 (by omega) (by omega) hst2
    have z1 := eqx_trans x1 y1
    have e1 := (stp_c (stp_r hst) z1 0 _ rfl).1
    have e2 := y2 m (by omega)
    rw [x3] at e2
    simp only [Int.natCast_zero, Int.add_zero, List.length_append] at e1
    refine ⟨sA AI3 179 0 (uA (AI3 179 0) m (bJ (PCd.holds (T.ask s c) (.branch (lb + 2) q r)))), ⟨eqx_trans z1 (eqx_sA (by decide)), fun j hj => ?_, ?_⟩, ?_⟩
    · rw [sA_same, uA_ne _ _ (by omega), y2 j (by omega)]; exact x2 j hj
    · rw [sA_same, uA_same]
    · simp only [PCd.code, List.length_append, List.length_singleton]
      refine goesF_trans (goesF_trans g1 ?_) (goesF_one (a := (J ((m : Int) + 1 + 1), J (100 * (s : Int) + k + ((PCd.code q).length + (PCd.code r).length : Nat)), AI3)) ?_)
      · have e9 : 100 * (s : Int) + (k + ((PCd.code q).length : Int)) + ((PCd.code r).length : Int) = 100 * (s : Int) + k + ((PCd.code q).length + (PCd.code r).length : Nat) := by omega
        have e8 : 100 * (s : Int) + k + ((PCd.code q).length : Int) = 100 * (s : Int) + (k + ((PCd.code q).length : Int)) := by omega
        rw [e9] at g2
        rw [e8]
        exact g2
      apply wp_eq
      show wp (mX4_isSo_b11 n FR AI3 AN (J s) (J c) (J to) (bJ (T.isCast s c)) (J ((m : Int) + 1 + 1)) (J (100 * (s : Int) + k + ((PCd.code q).length + (PCd.code r).length : Nat)))) _
      rw [show 100 * (s : Int) + (k + (((PCd.code q).length + (PCd.code r).length : Nat) : Int)) = 100 * (s : Int) + k + (((PCd.code q).length + (PCd.code r).length : Nat) : Int) by omega] at e1
      unfold mX4_isSo_b11 mX4_isSo_j82 mX4_isSo_j126 mX4_isSo_j152 mX4_isSo_j157
      ((repeat' (first | ((with_reducible apply wp_let); try dsimp only) | ((with_reducible apply wp_gdJ); (focus (first | ((simp (disch := omega) only [J_lit, J_add, J_sub, J_mul, J_neg, J_n, jle, jlt, jeq, jnn, jnat, Int.toNat_natCast, bJ_0, bJ_1, bft, gd_T, nar_J, nar_0, nar_1, if_true, if_false, Option.bind_some, gd_t, e1, e2, y3, Int.add_sub_cancel, Int.add_neg_cancel_right, natP]); rfl) | rfl)); (focus (first | exact True.intro | (first | exact vp_J (by omega) (by omega) (by omega) | omega)))) | ((with_reducible apply wp_ifJT); (focus (first | ((simp (disch := omega) only [J_lit, J_add, J_sub, J_mul, J_neg, J_n, jle, jlt, jeq, jnn, jnat, Int.toNat_natCast, bJ_0, bJ_1, bft, gd_T, nar_J, nar_0, nar_1, if_true, if_false, Option.bind_some, gd_t, e1, e2, y3, Int.add_sub_cancel, Int.add_neg_cancel_right, natP]); rfl) | rfl)); (focus (first | exact True.intro | omega))) | ((with_reducible apply wp_ifJF); (focus (first | ((simp (disch := omega) only [J_lit, J_add, J_sub, J_mul, J_neg, J_n, jle, jlt, jeq, jnn, jnat, Int.toNat_natCast, bJ_0, bJ_1, bft, gd_T, nar_J, nar_0, nar_1, if_true, if_false, Option.bind_some, gd_t, e1, e2, y3, Int.add_sub_cancel, Int.add_neg_cancel_right, natP]); rfl) | rfl)); (focus (first | exact not_false | omega))) | ((with_reducible apply wp_ifJ); (focus (first | ((simp (disch := omega) only [J_lit, J_add, J_sub, J_mul, J_neg, J_n, jle, jlt, jeq, jnn, jnat, Int.toNat_natCast, bJ_0, bJ_1, bft, gd_T, nar_J, nar_0, nar_1, if_true, if_false, Option.bind_some, gd_t, e1, e2, y3, Int.add_sub_cancel, Int.add_neg_cancel_right, natP]); rfl) | rfl)); all_goals intro _) | (with_reducible apply wp_some) | ((with_reducible apply wp_eli); try dsimp only) | ((with_reducible apply wp_elr); try dsimp only) | ((with_reducible apply wp_bindE); (focus ((simp (disch := omega) only [J_lit, J_add, J_sub, J_mul, J_neg, J_n, jle, jlt, jeq, jnn, jnat, Int.toNat_natCast, bJ_0, bJ_1, bft, gd_T, nar_J, nar_0, nar_1, if_true, if_false, Option.bind_some, gd_t, e1, e2, y3, Int.add_sub_cancel, Int.add_neg_cancel_right, natP]); rfl)); try dsimp only) | (with_reducible apply wp_bind))); all_goals (try (simp (disch := omega) only [J_lit, J_add, J_sub, J_mul, J_neg, J_n, jle, jlt, jeq, jnn, jnat, Int.toNat_natCast, bJ_0, bJ_1, bft, gd_T, nar_J, nar_0, nar_1, if_true, if_false, Option.bind_some, gd_t, e1, e2, y3, Int.add_sub_cancel, Int.add_neg_cancel_right, natP])))
      all_goals (refine congrArg Sum.inl ?_; rw [show 100 * (s : Int) + k + (((PCd.code q).length + (PCd.code r).length : Nat) : Int) + 1 = 100 * (s : Int) + k + (((PCd.code q).length + (PCd.code r).length + 1 : Nat) : Int) by omega]; simp_all [PCd.holds, bJ])
theorem q4_isSo (h : MTb T FI AI) (hT : PTbOk T) (hn : 10000 ≤ n) {s c k : Nat} (hs : s < T.S.nS) (hc : c < T.all) (hk : k < (T.S.ct s).nf) :
    ∃ AI2, eqx [179] AI AI2 ∧ mX4_isSo n FR AI AN (J s) (J c) (AI 131 0 (8 * (s : Int) + (k : Int)).toNat) (AI 132 0 (8 * (s : Int) + (k : Int)).toNat) (bJ (T.isCast s c)) = some (bJ (match (T.S.ct s).cd k with | none => true | some q => q.holds (T.ask s c)), AI2) := by
  have hS := hT.S.nS
  obtain ⟨f, L, h1, h2, h3, h4, h5⟩ := h.code s k hs hk
  rw [h2, h3]
  cases hq : (T.S.ct s).cd k with
  | none =>
    rw [hq] at h4
    simp only [] at h4
    subst h4
    refine ⟨AI, eqx_refl, ?_⟩
    have e1 : lpF (fun v : Int32 × Int32 × OhI => mX4_isSo_b11 n FR v.2.2 AN (J s) (J c) (J ((f : Int) + (([] : List (Int × Int × Int)).length : Int))) (bJ (T.isCast s c)) v.1 v.2.1) n (J 0, J (100 * (s : Int) + (f : Int)), AI) = some (J 0, AI) := by
      refine lpF_end ?_ (by omega)
      apply wp_eq
      unfold mX4_isSo_b11
      simp only [List.length_nil] at *
      ((repeat' (first | ((with_reducible apply wp_let); try dsimp only) | ((with_reducible apply wp_gdJ); (focus (first | ((simp (disch := omega) only [J_lit, J_add, J_sub, J_mul, J_neg, J_n, jle, jlt, jeq, jnn, jnat, Int.toNat_natCast, bJ_0, bJ_1, bft, gd_T, nar_J, nar_0, nar_1, if_true, if_false, Option.bind_some, gd_t]); rfl) | rfl)); (focus (first | exact True.intro | (first | exact vp_J (by omega) (by omega) (by omega) | omega)))) | ((with_reducible apply wp_ifJT); (focus (first | ((simp (disch := omega) only [J_lit, J_add, J_sub, J_mul, J_neg, J_n, jle, jlt, jeq, jnn, jnat, Int.toNat_natCast, bJ_0, bJ_1, bft, gd_T, nar_J, nar_0, nar_1, if_true, if_false, Option.bind_some, gd_t]); rfl) | rfl)); (focus (first | exact True.intro | omega))) | ((with_reducible apply wp_ifJF); (focus (first | ((simp (disch := omega) only [J_lit, J_add, J_sub, J_mul, J_neg, J_n, jle, jlt, jeq, jnn, jnat, Int.toNat_natCast, bJ_0, bJ_1, bft, gd_T, nar_J, nar_0, nar_1, if_true, if_false, Option.bind_some, gd_t]); rfl) | rfl)); (focus (first | exact not_false | omega))) | ((with_reducible apply wp_ifJ); (focus (first | ((simp (disch := omega) only [J_lit, J_add, J_sub, J_mul, J_neg, J_n, jle, jlt, jeq, jnn, jnat, Int.toNat_natCast, bJ_0, bJ_1, bft, gd_T, nar_J, nar_0, nar_1, if_true, if_false, Option.bind_some, gd_t]); rfl) | rfl)); all_goals intro _) | (with_reducible apply wp_some) | ((with_reducible apply wp_eli); try dsimp only) | ((with_reducible apply wp_elr); try dsimp only) | ((with_reducible apply wp_bindE); (focus ((simp (disch := omega) only [J_lit, J_add, J_sub, J_mul, J_neg, J_n, jle, jlt, jeq, jnn, jnat, Int.toNat_natCast, bJ_0, bJ_1, bft, gd_T, nar_J, nar_0, nar_1, if_true, if_false, Option.bind_some, gd_t]); rfl)); try dsimp only) | (with_reducible apply wp_bind))); all_goals (try (simp (disch := omega) only [J_lit, J_add, J_sub, J_mul, J_neg, J_n, jle, jlt, jeq, jnn, jnat, Int.toNat_natCast, bJ_0, bJ_1, bft, gd_T, nar_J, nar_0, nar_1, if_true, if_false, Option.bind_some, gd_t])))
    apply wp_eq
    unfold mX4_isSo
    ((repeat' (first | ((with_reducible apply wp_let); try dsimp only) | ((with_reducible apply wp_gdJ); (focus (first | ((simp (disch := omega) only [J_lit, J_add, J_sub, J_mul, J_neg, J_n, jle, jlt, jeq, jnn, jnat, Int.toNat_natCast, bJ_0, bJ_1, bft, gd_T, nar_J, nar_0, nar_1, if_true, if_false, Option.bind_some, gd_t, e1]); rfl) | rfl)); (focus (first | exact True.intro | (first | exact vp_J (by omega) (by omega) (by omega) | omega)))) | ((with_reducible apply wp_ifJT); (focus (first | ((simp (disch := omega) only [J_lit, J_add, J_sub, J_mul, J_neg, J_n, jle, jlt, jeq, jnn, jnat, Int.toNat_natCast, bJ_0, bJ_1, bft, gd_T, nar_J, nar_0, nar_1, if_true, if_false, Option.bind_some, gd_t, e1]); rfl) | rfl)); (focus (first | exact True.intro | omega))) | ((with_reducible apply wp_ifJF); (focus (first | ((simp (disch := omega) only [J_lit, J_add, J_sub, J_mul, J_neg, J_n, jle, jlt, jeq, jnn, jnat, Int.toNat_natCast, bJ_0, bJ_1, bft, gd_T, nar_J, nar_0, nar_1, if_true, if_false, Option.bind_some, gd_t, e1]); rfl) | rfl)); (focus (first | exact not_false | omega))) | ((with_reducible apply wp_ifJ); (focus (first | ((simp (disch := omega) only [J_lit, J_add, J_sub, J_mul, J_neg, J_n, jle, jlt, jeq, jnn, jnat, Int.toNat_natCast, bJ_0, bJ_1, bft, gd_T, nar_J, nar_0, nar_1, if_true, if_false, Option.bind_some, gd_t, e1]); rfl) | rfl)); all_goals intro _) | (with_reducible apply wp_some) | ((with_reducible apply wp_eli); try dsimp only) | ((with_reducible apply wp_elr); try dsimp only) | ((with_reducible apply wp_bindE); (focus ((simp (disch := omega) only [J_lit, J_add, J_sub, J_mul, J_neg, J_n, jle, jlt, jeq, jnn, jnat, Int.toNat_natCast, bJ_0, bJ_1, bft, gd_T, nar_J, nar_0, nar_1, if_true, if_false, Option.bind_some, gd_t, e1]); rfl)); try dsimp only) | (with_reducible apply wp_bind))); all_goals (try (simp (disch := omega) only [J_lit, J_add, J_sub, J_mul, J_neg, J_n, jle, jlt, jeq, jnn, jnat, Int.toNat_natCast, bJ_0, bJ_1, bft, gd_T, nar_J, nar_0, nar_1, if_true, if_false, Option.bind_some, gd_t, e1])))
    rfl
  | some q =>
    rw [hq] at h4
    simp only [] at h4
    subst h4
    have hcd := (hT.S.ct s hs).cd k q hk hq
    have hp := PCd.ones_pos q
    obtain ⟨AI2, ⟨x1, x2, x3⟩, g⟩ := q4_so1 (n := n) (FR := FR) (AN := AN) (m := 0) (to := (f : Int) + (q.code.length : Int)) (k := (f : Int)) h hT hn hs hc (by omega) (by omega) (by omega) q hcd.1 (by omega) (by omega) h5
    refine ⟨AI2, x1, ?_⟩
    have e1 : lpF (fun v : Int32 × Int32 × OhI => mX4_isSo_b11 n FR v.2.2 AN (J s) (J c) (J ((f : Int) + (q.code.length : Int))) (bJ (T.isCast s c)) v.1 v.2.1) n (J 0, J (100 * (s : Int) + (f : Int)), AI) = some (J 1, AI2) := by
      refine (lpF_goes' g (by omega)).trans ?_
      refine lpF_end ?_ (by omega)
      apply wp_eq
      show wp (mX4_isSo_b11 n FR AI2 AN (J s) (J c) (J ((f : Int) + (q.code.length : Int))) (bJ (T.isCast s c)) (J ((0 : Nat) + 1)) (J (100 * (s : Int) + (f : Int) + (q.code.length : Int)))) _
      unfold mX4_isSo_b11
      ((repeat' (first | ((with_reducible apply wp_let); try dsimp only) | ((with_reducible apply wp_gdJ); (focus (first | ((simp (disch := omega) only [J_lit, J_add, J_sub, J_mul, J_neg, J_n, jle, jlt, jeq, jnn, jnat, Int.toNat_natCast, bJ_0, bJ_1, bft, gd_T, nar_J, nar_0, nar_1, if_true, if_false, Option.bind_some, gd_t]); rfl) | rfl)); (focus (first | exact True.intro | (first | exact vp_J (by omega) (by omega) (by omega) | omega)))) | ((with_reducible apply wp_ifJT); (focus (first | ((simp (disch := omega) only [J_lit, J_add, J_sub, J_mul, J_neg, J_n, jle, jlt, jeq, jnn, jnat, Int.toNat_natCast, bJ_0, bJ_1, bft, gd_T, nar_J, nar_0, nar_1, if_true, if_false, Option.bind_some, gd_t]); rfl) | rfl)); (focus (first | exact True.intro | omega))) | ((with_reducible apply wp_ifJF); (focus (first | ((simp (disch := omega) only [J_lit, J_add, J_sub, J_mul, J_neg, J_n, jle, jlt, jeq, jnn, jnat, Int.toNat_natCast, bJ_0, bJ_1, bft, gd_T, nar_J, nar_0, nar_1, if_true, if_false, Option.bind_some, gd_t]); rfl) | rfl)); (focus (first | exact not_false | omega))) | ((with_reducible apply wp_ifJ); (focus (first | ((simp (disch := omega) only [J_lit, J_add, J_sub, J_mul, J_neg, J_n, jle, jlt, jeq, jnn, jnat, Int.toNat_natCast, bJ_0, bJ_1, bft, gd_T, nar_J, nar_0, nar_1, if_true, if_false, Option.bind_some, gd_t]); rfl) | rfl)); all_goals intro _) | (with_reducible apply wp_some) | ((with_reducible apply wp_eli); try dsimp only) | ((with_reducible apply wp_elr); try dsimp only) | ((with_reducible apply wp_bindE); (focus ((simp (disch := omega) only [J_lit, J_add, J_sub, J_mul, J_neg, J_n, jle, jlt, jeq, jnn, jnat, Int.toNat_natCast, bJ_0, bJ_1, bft, gd_T, nar_J, nar_0, nar_1, if_true, if_false, Option.bind_some, gd_t]); rfl)); try dsimp only) | (with_reducible apply wp_bind))); all_goals (try (simp (disch := omega) only [J_lit, J_add, J_sub, J_mul, J_neg, J_n, jle, jlt, jeq, jnn, jnat, Int.toNat_natCast, bJ_0, bJ_1, bft, gd_T, nar_J, nar_0, nar_1, if_true, if_false, Option.bind_some, gd_t])))
      rfl
    apply wp_eq
    unfold mX4_isSo
    ((repeat' (first | ((with_reducible apply wp_let); try dsimp only) | ((with_reducible apply wp_gdJ); (focus (first | ((simp (disch := omega) only [J_lit, J_add, J_sub, J_mul, J_neg, J_n, jle, jlt, jeq, jnn, jnat, Int.toNat_natCast, bJ_0, bJ_1, bft, gd_T, nar_J, nar_0, nar_1, if_true, if_false, Option.bind_some, gd_t, e1, x3]); rfl) | rfl)); (focus (first | exact True.intro | (first | exact vp_J (by omega) (by omega) (by omega) | omega)))) | ((with_reducible apply wp_ifJT); (focus (first | ((simp (disch := omega) only [J_lit, J_add, J_sub, J_mul, J_neg, J_n, jle, jlt, jeq, jnn, jnat, Int.toNat_natCast, bJ_0, bJ_1, bft, gd_T, nar_J, nar_0, nar_1, if_true, if_false, Option.bind_some, gd_t, e1, x3]); rfl) | rfl)); (focus (first | exact True.intro | omega))) | ((with_reducible apply wp_ifJF); (focus (first | ((simp (disch := omega) only [J_lit, J_add, J_sub, J_mul, J_neg, J_n, jle, jlt, jeq, jnn, jnat, Int.toNat_natCast, bJ_0, bJ_1, bft, gd_T, nar_J, nar_0, nar_1, if_true, if_false, Option.bind_some, gd_t, e1, x3]); rfl) | rfl)); (focus (first | exact not_false | omega))) | ((with_reducible apply wp_ifJ); (focus (first | ((simp (disch := omega) only [J_lit, J_add, J_sub, J_mul, J_neg, J_n, jle, jlt, jeq, jnn, jnat, Int.toNat_natCast, bJ_0, bJ_1, bft, gd_T, nar_J, nar_0, nar_1, if_true, if_false, Option.bind_some, gd_t, e1, x3]); rfl) | rfl)); all_goals intro _) | (with_reducible apply wp_some) | ((with_reducible apply wp_eli); try dsimp only) | ((with_reducible apply wp_elr); try dsimp only) | ((with_reducible apply wp_bindE); (focus ((simp (disch := omega) only [J_lit, J_add, J_sub, J_mul, J_neg, J_n, jle, jlt, jeq, jnn, jnat, Int.toNat_natCast, bJ_0, bJ_1, bft, gd_T, nar_J, nar_0, nar_1, if_true, if_false, Option.bind_some, gd_t, e1, x3]); rfl)); try dsimp only) | (with_reducible apply wp_bind))); all_goals (try (simp (disch := omega) only [J_lit, J_add, J_sub, J_mul, J_neg, J_n, jle, jlt, jeq, jnn, jnat, Int.toNat_natCast, bJ_0, bJ_1, bft, gd_T, nar_J, nar_0, nar_1, if_true, if_false, Option.bind_some, gd_t, e1, x3])))
    all_goals (simp_all [bJ])
theorem q4_feeOf (h : MTb T FI AI) (hT : PTbOk T) (hn : 10000 ≤ n) {s c : Nat} (hs : s < T.S.nS) (hc : c < T.all) :
    ∃ AI2, eqx [179] AI AI2 ∧ mX4_feeOf n FI FR AI AN (J s) (J c) = some (J (T.fee s c), AI2) := by
  have h66 := hT.all
  have hb := hT.b hc
  have hS := hT.S.nS
  have hf := (hT.S.ct s hs).nf
  have k1 : ∃ AI2, eqx [179] AI AI2 ∧ lpF (fun v : Int32 × Int32 × OhI => mX4_feeOf_b45 n FI FR v.2.2 AN (J s) (J c) (bJ (T.isCast s c)) v.1 v.2.1) n (J 0, J (8 * (s : Int)), AI) = some (J (T.earns s c), AI2) := by
    have key : wp (lpF (fun v : Int32 × Int32 × OhI => mX4_feeOf_b45 n FI FR v.2.2 AN (J s) (J c) (bJ (T.isCast s c)) v.1 v.2.1) n (J 0, J (8 * (s : Int)), AI)) (fun r => ∃ AI2, eqx [179] AI AI2 ∧ r = (J (T.earns s c), AI2)) := by
      refine wp_for (T.S.ct s).nf (fun k a => ∃ AI2, eqx [179] AI AI2 ∧ a = (J (sumN k fun k => if (match (T.S.ct s).cd k with | none => true | some q => q.holds (T.ask s c)) = true then (T.S.ct s).much k else 0), J (8 * (s : Int) + (k : Int)), AI2)) ?_ (k0 := 0) ⟨AI, eqx_refl, rfl⟩ (by omega) (by omega)
      rintro k a hk ⟨AI2, x, rfl⟩
      have h2 := h.eqx_ x (by decide)
      dsimp only
      unfold mX4_feeOf_b45
      by_cases e : k = (T.S.ct s).nf
      · subst e
        ((repeat' (first | ((with_reducible apply wp_let); try dsimp only) | ((with_reducible apply wp_gdJ); (focus (first | ((simp (disch := omega) only [J_lit, J_add, J_sub, J_mul, J_neg, J_n, jle, jlt, jeq, jnn, jnat, Int.toNat_natCast, bJ_0, bJ_1, bft, gd_T, nar_J, nar_0, nar_1, if_true, if_false, Option.bind_some, gd_t, h2.nf]); rfl) | rfl)); (focus (first | exact True.intro | (first | exact vp_J (by omega) (by omega) (by omega) | omega)))) | ((with_reducible apply wp_ifJT); (focus (first | ((simp (disch := omega) only [J_lit, J_add, J_sub, J_mul, J_neg, J_n, jle, jlt, jeq, jnn, jnat, Int.toNat_natCast, bJ_0, bJ_1, bft, gd_T, nar_J, nar_0, nar_1, if_true, if_false, Option.bind_some, gd_t, h2.nf]); rfl) | rfl)); (focus (first | exact True.intro | omega))) | ((with_reducible apply wp_ifJF); (focus (first | ((simp (disch := omega) only [J_lit, J_add, J_sub, J_mul, J_neg, J_n, jle, jlt, jeq, jnn, jnat, Int.toNat_natCast, bJ_0, bJ_1, bft, gd_T, nar_J, nar_0, nar_1, if_true, if_false, Option.bind_some, gd_t, h2.nf]); rfl) | rfl)); (focus (first | exact not_false | omega))) | ((with_reducible apply wp_ifJ); (focus (first | ((simp (disch := omega) only [J_lit, J_add, J_sub, J_mul, J_neg, J_n, jle, jlt, jeq, jnn, jnat, Int.toNat_natCast, bJ_0, bJ_1, bft, gd_T, nar_J, nar_0, nar_1, if_true, if_false, Option.bind_some, gd_t, h2.nf]); rfl) | rfl)); all_goals intro _) | (with_reducible apply wp_some) | ((with_reducible apply wp_eli); try dsimp only) | ((with_reducible apply wp_elr); try dsimp only) | ((with_reducible apply wp_bindE); (focus ((simp (disch := omega) only [J_lit, J_add, J_sub, J_mul, J_neg, J_n, jle, jlt, jeq, jnn, jnat, Int.toNat_natCast, bJ_0, bJ_1, bft, gd_T, nar_J, nar_0, nar_1, if_true, if_false, Option.bind_some, gd_t, h2.nf]); rfl)); try dsimp only) | (with_reducible apply wp_bind))); all_goals (try (simp (disch := omega) only [J_lit, J_add, J_sub, J_mul, J_neg, J_n, jle, jlt, jeq, jnn, jnat, Int.toNat_natCast, bJ_0, bJ_1, bft, gd_T, nar_J, nar_0, nar_1, if_true, if_false, Option.bind_some, gd_t, h2.nf])))
        exact ⟨AI2, x, rfl⟩
      · obtain ⟨AI3, x3, e3⟩ := q4_isSo (n := n) (FR := FR) (AN := AN) (k := k) h2 hT hn hs hc (by omega)
        have hm := (h2.eqx_ x3 (by decide)).much s k hs (by omega)
        ((repeat' (first | ((with_reducible apply wp_let); try dsimp only) | ((with_reducible apply wp_gdJ); (focus (first | ((simp (disch := omega) only [J_lit, J_add, J_sub, J_mul, J_neg, J_n, jle, jlt, jeq, jnn, jnat, Int.toNat_natCast, bJ_0, bJ_1, bft, gd_T, nar_J, nar_0, nar_1, if_true, if_false, Option.bind_some, gd_t, h2.nf, e3, hm]); rfl) | rfl)); (focus (first | exact True.intro | (first | exact vp_J (by omega) (by omega) (by omega) | omega)))) | ((with_reducible apply wp_ifJT); (focus (first | ((simp (disch := omega) only [J_lit, J_add, J_sub, J_mul, J_neg, J_n, jle, jlt, jeq, jnn, jnat, Int.toNat_natCast, bJ_0, bJ_1, bft, gd_T, nar_J, nar_0, nar_1, if_true, if_false, Option.bind_some, gd_t, h2.nf, e3, hm]); rfl) | rfl)); (focus (first | exact True.intro | omega))) | ((with_reducible apply wp_ifJF); (focus (first | ((simp (disch := omega) only [J_lit, J_add, J_sub, J_mul, J_neg, J_n, jle, jlt, jeq, jnn, jnat, Int.toNat_natCast, bJ_0, bJ_1, bft, gd_T, nar_J, nar_0, nar_1, if_true, if_false, Option.bind_some, gd_t, h2.nf, e3, hm]); rfl) | rfl)); (focus (first | exact not_false | omega))) | ((with_reducible apply wp_ifJ); (focus (first | ((simp (disch := omega) only [J_lit, J_add, J_sub, J_mul, J_neg, J_n, jle, jlt, jeq, jnn, jnat, Int.toNat_natCast, bJ_0, bJ_1, bft, gd_T, nar_J, nar_0, nar_1, if_true, if_false, Option.bind_some, gd_t, h2.nf, e3, hm]); rfl) | rfl)); all_goals intro _) | (with_reducible apply wp_some) | ((with_reducible apply wp_eli); try dsimp only) | ((with_reducible apply wp_elr); try dsimp only) | ((with_reducible apply wp_bindE); (focus ((simp (disch := omega) only [J_lit, J_add, J_sub, J_mul, J_neg, J_n, jle, jlt, jeq, jnn, jnat, Int.toNat_natCast, bJ_0, bJ_1, bft, gd_T, nar_J, nar_0, nar_1, if_true, if_false, Option.bind_some, gd_t, h2.nf, e3, hm]); rfl)); try dsimp only) | (with_reducible apply wp_bind))); all_goals (try (simp (disch := omega) only [J_lit, J_add, J_sub, J_mul, J_neg, J_n, jle, jlt, jeq, jnn, jnat, Int.toNat_natCast, bJ_0, bJ_1, bft, gd_T, nar_J, nar_0, nar_1, if_true, if_false, Option.bind_some, gd_t, h2.nf, e3, hm])))
        all_goals (simp only [LR_l])
        all_goals (refine ⟨by omega, AI3, eqx_trans x x3, ?_⟩)
        all_goals (simp only [sumN, Prod.mk.injEq])
        all_goals (refine ⟨congrArg J ?_, congrArg J (by omega), trivial⟩)
        all_goals (first | (rw [if_pos (by simp_all)]; done) | (rw [if_neg (by simp_all)]))
    obtain ⟨r, e, AI2, x, rfl⟩ := key
    exact ⟨AI2, x, e⟩
  obtain ⟨AI2, x, e⟩ := k1
  by_cases hz : (T.isCast s c = false ∧ T.covers s c = false) ∨ T.isIll s (T.ca c).day = true
  · refine ⟨AI, eqx_refl, wp_eq ?_⟩
    unfold mX4_feeOf mX4_feeOf_j20 PTb.fee
    rw [if_pos hz]
    ((repeat' (first | ((with_reducible apply wp_let); try dsimp only) | ((with_reducible apply wp_gdJ); (focus (first | ((simp (disch := omega) only [J_lit, J_add, J_sub, J_mul, J_neg, J_n, jle, jlt, jeq, jnn, jnat, Int.toNat_natCast, bJ_0, bJ_1, bft, gd_T, nar_J, nar_0, nar_1, if_true, if_false, Option.bind_some, gd_t, q4_isIn2 h hT, q4_isCover h hT hn, q4_isIll h hT hn, h.cd]); rfl) | rfl)); (focus (first | exact True.intro | (first | exact vp_J (by omega) (by omega) (by omega) | omega)))) | ((with_reducible apply wp_ifJT); (focus (first | ((simp (disch := omega) only [J_lit, J_add, J_sub, J_mul, J_neg, J_n, jle, jlt, jeq, jnn, jnat, Int.toNat_natCast, bJ_0, bJ_1, bft, gd_T, nar_J, nar_0, nar_1, if_true, if_false, Option.bind_some, gd_t, q4_isIn2 h hT, q4_isCover h hT hn, q4_isIll h hT hn, h.cd]); rfl) | rfl)); (focus (first | exact True.intro | omega))) | ((with_reducible apply wp_ifJF); (focus (first | ((simp (disch := omega) only [J_lit, J_add, J_sub, J_mul, J_neg, J_n, jle, jlt, jeq, jnn, jnat, Int.toNat_natCast, bJ_0, bJ_1, bft, gd_T, nar_J, nar_0, nar_1, if_true, if_false, Option.bind_some, gd_t, q4_isIn2 h hT, q4_isCover h hT hn, q4_isIll h hT hn, h.cd]); rfl) | rfl)); (focus (first | exact not_false | omega))) | ((with_reducible apply wp_ifJ); (focus (first | ((simp (disch := omega) only [J_lit, J_add, J_sub, J_mul, J_neg, J_n, jle, jlt, jeq, jnn, jnat, Int.toNat_natCast, bJ_0, bJ_1, bft, gd_T, nar_J, nar_0, nar_1, if_true, if_false, Option.bind_some, gd_t, q4_isIn2 h hT, q4_isCover h hT hn, q4_isIll h hT hn, h.cd]); rfl) | rfl)); all_goals intro _) | (with_reducible apply wp_some) | ((with_reducible apply wp_eli); try dsimp only) | ((with_reducible apply wp_elr); try dsimp only) | ((with_reducible apply wp_bindE); (focus ((simp (disch := omega) only [J_lit, J_add, J_sub, J_mul, J_neg, J_n, jle, jlt, jeq, jnn, jnat, Int.toNat_natCast, bJ_0, bJ_1, bft, gd_T, nar_J, nar_0, nar_1, if_true, if_false, Option.bind_some, gd_t, q4_isIn2 h hT, q4_isCover h hT hn, q4_isIll h hT hn, h.cd]); rfl)); try dsimp only) | (with_reducible apply wp_bind))); all_goals (try (simp (disch := omega) only [J_lit, J_add, J_sub, J_mul, J_neg, J_n, jle, jlt, jeq, jnn, jnat, Int.toNat_natCast, bJ_0, bJ_1, bft, gd_T, nar_J, nar_0, nar_1, if_true, if_false, Option.bind_some, gd_t, q4_isIn2 h hT, q4_isCover h hT hn, q4_isIll h hT hn, h.cd])))
    all_goals (first | rfl | (exfalso; simp_all; done))
  · refine ⟨AI2, x, wp_eq ?_⟩
    unfold mX4_feeOf mX4_feeOf_j20 PTb.fee
    rw [if_neg hz]
    ((repeat' (first | ((with_reducible apply wp_let); try dsimp only) | ((with_reducible apply wp_gdJ); (focus (first | ((simp (disch := omega) only [J_lit, J_add, J_sub, J_mul, J_neg, J_n, jle, jlt, jeq, jnn, jnat, Int.toNat_natCast, bJ_0, bJ_1, bft, gd_T, nar_J, nar_0, nar_1, if_true, if_false, Option.bind_some, gd_t, q4_isIn2 h hT, q4_isCover h hT hn, q4_isIll h hT hn, h.cd, e]); rfl) | rfl)); (focus (first | exact True.intro | (first | exact vp_J (by omega) (by omega) (by omega) | omega)))) | ((with_reducible apply wp_ifJT); (focus (first | ((simp (disch := omega) only [J_lit, J_add, J_sub, J_mul, J_neg, J_n, jle, jlt, jeq, jnn, jnat, Int.toNat_natCast, bJ_0, bJ_1, bft, gd_T, nar_J, nar_0, nar_1, if_true, if_false, Option.bind_some, gd_t, q4_isIn2 h hT, q4_isCover h hT hn, q4_isIll h hT hn, h.cd, e]); rfl) | rfl)); (focus (first | exact True.intro | omega))) | ((with_reducible apply wp_ifJF); (focus (first | ((simp (disch := omega) only [J_lit, J_add, J_sub, J_mul, J_neg, J_n, jle, jlt, jeq, jnn, jnat, Int.toNat_natCast, bJ_0, bJ_1, bft, gd_T, nar_J, nar_0, nar_1, if_true, if_false, Option.bind_some, gd_t, q4_isIn2 h hT, q4_isCover h hT hn, q4_isIll h hT hn, h.cd, e]); rfl) | rfl)); (focus (first | exact not_false | omega))) | ((with_reducible apply wp_ifJ); (focus (first | ((simp (disch := omega) only [J_lit, J_add, J_sub, J_mul, J_neg, J_n, jle, jlt, jeq, jnn, jnat, Int.toNat_natCast, bJ_0, bJ_1, bft, gd_T, nar_J, nar_0, nar_1, if_true, if_false, Option.bind_some, gd_t, q4_isIn2 h hT, q4_isCover h hT hn, q4_isIll h hT hn, h.cd, e]); rfl) | rfl)); all_goals intro _) | (with_reducible apply wp_some) | ((with_reducible apply wp_eli); try dsimp only) | ((with_reducible apply wp_elr); try dsimp only) | ((with_reducible apply wp_bindE); (focus ((simp (disch := omega) only [J_lit, J_add, J_sub, J_mul, J_neg, J_n, jle, jlt, jeq, jnn, jnat, Int.toNat_natCast, bJ_0, bJ_1, bft, gd_T, nar_J, nar_0, nar_1, if_true, if_false, Option.bind_some, gd_t, q4_isIn2 h hT, q4_isCover h hT hn, q4_isIll h hT hn, h.cd, e]); rfl)); try dsimp only) | (with_reducible apply wp_bind))); all_goals (try (simp (disch := omega) only [J_lit, J_add, J_sub, J_mul, J_neg, J_n, jle, jlt, jeq, jnn, jnat, Int.toNat_natCast, bJ_0, bJ_1, bft, gd_T, nar_J, nar_0, nar_1, if_true, if_false, Option.bind_some, gd_t, q4_isIn2 h hT, q4_isCover h hT hn, q4_isIll h hT hn, h.cd, e])))
    all_goals (first | rfl | (exfalso; simp_all; done))
end
end
