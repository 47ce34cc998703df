noncomputable section
set_option linter.unusedVariables false
set_option linter.unusedSimpArgs false
/-! PLAIN 45: what the house's questions answer, 5: whether one is rehearsed -/
/-- the least end of those for which P holds, among the first; none: the largest int -/
def mnE (fin : Nat → Int) (P : Nat → Bool) : Nat → Int
  | 0 => 2147483647
  | k + 1 => if P k = true then min (mnE fin P k) (fin k) else mnE fin P k
theorem mnE_le {fin : Nat → Int} {P : Nat → Bool} {x : Int} (hx : x < 2147483647) : ∀ k, mnE fin P k ≤ x ↔ ∃ i, i < k ∧ P i = true ∧ fin i ≤ x
  | 0 => by simp only [mnE]; constructor; · intro h; omega
            · rintro ⟨i, h, _⟩; omega
  | k + 1 => by
    have ih := mnE_le (fin := fin) (P := P) hx k
    simp only [mnE]
    by_cases q : P k = true
    · rw [if_pos q]
      constructor
      · intro h
        by_cases q2 : mnE fin P k ≤ x
        · obtain ⟨i, a, b⟩ := ih.mp q2; exact ⟨i, by omega, b⟩
        · exact ⟨k, by omega, q, by omega⟩
      · rintro ⟨i, a, b, c⟩
        by_cases q2 : i = k
        · subst q2; omega
        · have := ih.mpr ⟨i, by omega, b, c⟩; omega
    · rw [if_neg q, ih]
      constructor
      · rintro ⟨i, a, b⟩; exact ⟨i, by omega, b⟩
      · rintro ⟨i, a, b, c⟩
        refine ⟨i, ?_, b, c⟩
        by_cases q2 : i = k
        · subst q2; exact absurd b q
        · omega
theorem mnE_b {fin : Nat → Int} {P : Nat → Bool} : ∀ k, (∀ i, i < k → 0 ≤ fin i ∧ fin i ≤ 1000) → 0 ≤ mnE fin P k ∧ mnE fin P k ≤ 2147483647
  | 0, _ => by simp [mnE]
  | k + 1, h => by
    have ih := mnE_b (fin := fin) (P := P) k (fun i hi => h i (by omega))
    have := h k (by omega)
    simp only [mnE]; split <;> omega
section
variable {T : PTb} {Z : PZ} {FI : OhI} {FR GR : OhQ} {AI : OhI} {AR BR : OhQ} {AN : OhN} {n : Nat}
theorem fe_le (T : PTb) (o : Nat) (kd frm : Int) {x : Int} (hx : x < 100000) : ∀ n, T.fe o kd frm n ≤ x ↔ ∃ d, d < n ∧ (T.ca d).op = o ∧ (T.ca d).kind = kd ∧ frm ≤ (T.ca d).beg ∧ (T.ca d).fin ≤ x
  | 0 => by simp only [PTb.fe]; constructor; · intro h; omega
            · rintro ⟨i, h, _⟩; omega
  | n + 1 => by
    have ih := fe_le T o kd frm hx n
    simp only [PTb.fe]
    constructor
    · intro h
      split at h
      · rename_i q; exact ⟨n, by omega, q.1, q.2.1, q.2.2.1, h⟩
      · obtain ⟨d, a, b⟩ := ih.mp h; exact ⟨d, by omega, b⟩
    · rintro ⟨d, a, b1, b2, b3, b4⟩
      by_cases q : d = n
      · subst q
        by_cases q2 : (T.ca d).fin < T.fe o kd frm d
        · rw [if_pos ⟨b1, b2, b3, q2⟩]; exact b4
        · rw [if_neg (by rintro ⟨_, _, _, z⟩; exact q2 z)]; omega
      · have := ih.mpr ⟨d, by omega, b1, b2, b3, b4⟩
        split
        · rename_i z; omega
        · exact this
theorem ex_pos (hT : PTbOk T) {p : Nat → Prop} : (∃ i, i < T.all ∧ p (T.ord i)) ↔ ∃ d, d < T.all ∧ p d :=
  ⟨fun ⟨i, a, b⟩ => ⟨T.ord i, hT.ord i a, b⟩, fun ⟨d, a, b⟩ => ⟨T.pos d, hT.pos d a, by rw [hT.op d a]; exact b⟩⟩
theorem h_isRehearsed (h : HTb T Z FI FR GR AI BR AN) (hT : PTbOk T) (hn : 10000 ≤ n) {c : Nat} (hc : c < T.all) : mX1_isRehearsed n FI FR AR BR AN (some (Z.c c)) = some (bJ (decide (T.fe (T.ca c).op 2 (T.fe (T.ca c).op 1 (T.fe (T.ca c).op 0 0 T.all) T.all) T.all ≤ (T.ca c).beg))) := by
  have h66 := hT.all
  have hbc := hT.b hc
  have eopc := (h.ca _ hc).op
  have fb : ∀ i, i < T.all → 0 ≤ (T.ca (T.ord i)).fin ∧ (T.ca (T.ord i)).fin ≤ 1000 := fun i hi => by have := hT.b (hT.ord i hi); omega
  generalize hP0 : (fun i => decide ((T.ca (T.ord i)).op = (T.ca c).op ∧ (T.ca (T.ord i)).kind = 0)) = P0
  generalize hF : (fun i => (T.ca (T.ord i)).fin) = F
  have fb' : ∀ k, k ≤ T.all → ∀ i, i < k → 0 ≤ F i ∧ F i ≤ 1000 := fun k hk i hi => by rw [← hF]; exact fb i (by omega)
  have k0 : lpF (fun v : Int32 × Int32 => mX1_isRehearsed_b11 n FI FR AR BR AN (some (Z.c c)) v.1 (J 2147483647) v.2) n (J 2147483647, J 0) = some (J (mnE F P0 T.all)) := by
    refine wp_fold (fun k => (J (mnE F P0 k), J (k : Int))) _ T.all ?_ ?_ (by omega) rfl
    · intro k hk
      have ho := hT.ord k hk
      have hb := hT.b ho
      have mb := mnE_b (fin := F) (P := P0) k (fb' k (by omega))
      have eop := (h.ca _ ho).op
      have enm := h.oNm' hb.1 hbc.1
      have eeq := h.oEq hb.1 hbc.1
      have em : mnE F P0 (k + 1) = if (T.ca (T.ord k)).op = (T.ca c).op ∧ (T.ca (T.ord k)).kind = 0 then min (mnE F P0 k) (T.ca (T.ord k)).fin else mnE F P0 k := by
        simp only [mnE]; rw [← hP0, ← hF]; simp only [decide_eq_true_eq]
      dsimp only
      unfold mX1_isRehearsed_b11
      ((repeat' (first | ((with_reducible apply wp_let); try dsimp only) | ((with_reducible apply wp_gdJ); (focus (first | ((simp (disch := omega) only [J_lit, J_add, J_sub, J_mul, J_neg, J_n, jle, jlt, jeq, jnn, jnat, Int.toNat_natCast, bJ_0, bJ_1, bft, gd_T, nar_J, nar_0, nar_1, if_true, if_false, Option.bind_some, gd_t, h.ordered, h.order, h.cD ho, h.cD hc, eop, eopc, enm, eeq, (h.ca _ ho).kind, (h.ca _ ho).fin, h_min]); rfl) | rfl)); (focus (first | exact True.intro | (first | exact vp_J (by omega) (by omega) (by omega) | omega)))) | ((with_reducible apply wp_ifJT); (focus (first | ((simp (disch := omega) only [J_lit, J_add, J_sub, J_mul, J_neg, J_n, jle, jlt, jeq, jnn, jnat, Int.toNat_natCast, bJ_0, bJ_1, bft, gd_T, nar_J, nar_0, nar_1, if_true, if_false, Option.bind_some, gd_t, decide_eq_false_iff_not, decide_eq_true_eq, h.ordered, h.order, h.cD ho, h.cD hc, eop, eopc, enm, eeq, (h.ca _ ho).kind, (h.ca _ ho).fin, h_min]); rfl) | rfl)); (focus (first | exact True.intro | omega))) | ((with_reducible apply wp_ifJF); (focus (first | ((simp (disch := omega) only [J_lit, J_add, J_sub, J_mul, J_neg, J_n, jle, jlt, jeq, jnn, jnat, Int.toNat_natCast, bJ_0, bJ_1, bft, gd_T, nar_J, nar_0, nar_1, if_true, if_false, Option.bind_some, gd_t, decide_eq_false_iff_not, decide_eq_true_eq, h.ordered, h.order, h.cD ho, h.cD hc, eop, eopc, enm, eeq, (h.ca _ ho).kind, (h.ca _ ho).fin, h_min]); rfl) | rfl)); (focus (first | exact not_false | omega))) | ((with_reducible apply wp_ifJ); (focus (first | ((simp (disch := omega) only [J_lit, J_add, J_sub, J_mul, J_neg, J_n, jle, jlt, jeq, jnn, jnat, Int.toNat_natCast, bJ_0, bJ_1, bft, gd_T, nar_J, nar_0, nar_1, if_true, if_false, Option.bind_some, gd_t, decide_eq_false_iff_not, decide_eq_true_eq, h.ordered, h.order, h.cD ho, h.cD hc, eop, eopc, enm, eeq, (h.ca _ ho).kind, (h.ca _ ho).fin, h_min]); rfl) | rfl)); all_goals intro _) | (with_reducible apply wp_some) | ((with_reducible apply wp_eli); try dsimp only) | ((with_reducible apply wp_elr); try dsimp only) | ((with_reducible apply wp_bindE); (focus ((simp (disch := omega) only [J_lit, J_add, J_sub, J_mul, J_neg, J_n, jle, jlt, jeq, jnn, jnat, Int.toNat_natCast, bJ_0, bJ_1, bft, gd_T, nar_J, nar_0, nar_1, if_true, if_false, Option.bind_some, gd_t, h.ordered, h.order, h.cD ho, h.cD hc, eop, eopc, enm, eeq, (h.ca _ ho).kind, (h.ca _ ho).fin, h_min]); rfl)); try dsimp only) | (with_reducible apply wp_bind))); all_goals (try (simp (disch := omega) only [J_lit, J_add, J_sub, J_mul, J_neg, J_n, jle, jlt, jeq, jnn, jnat, Int.toNat_natCast, bJ_0, bJ_1, bft, gd_T, nar_J, nar_0, nar_1, if_true, if_false, Option.bind_some, gd_t, h.ordered, h.order, h.cD ho, h.cD hc, eop, eopc, enm, eeq, (h.ca _ ho).kind, (h.ca _ ho).fin, h_min])))
      all_goals (simp only [LR_l, em])
      all_goals (first | (rw [if_pos (by omega)]; rfl) | (rw [if_neg (by omega)]; rfl))
    · dsimp only
      unfold mX1_isRehearsed_b11
      ((repeat' (first | ((with_reducible apply wp_let); try dsimp only) | ((with_reducible apply wp_gdJ); (focus (first | ((simp (disch := omega) only [J_lit, J_add, J_sub, J_mul, J_neg, J_n, jle, jlt, jeq, jnn, jnat, Int.toNat_natCast, bJ_0, bJ_1, bft, gd_T, nar_J, nar_0, nar_1, if_true, if_false, Option.bind_some, gd_t, h.ordered]); rfl) | rfl)); (focus (first | exact True.intro | (first | exact vp_J (by omega) (by omega) (by omega) | omega)))) | ((with_reducible apply wp_ifJT); (focus (first | ((simp (disch := omega) only [J_lit, J_add, J_sub, J_mul, J_neg, J_n, jle, jlt, jeq, jnn, jnat, Int.toNat_natCast, bJ_0, bJ_1, bft, gd_T, nar_J, nar_0, nar_1, if_true, if_false, Option.bind_some, gd_t, decide_eq_false_iff_not, decide_eq_true_eq, h.ordered]); rfl) | rfl)); (focus (first | exact True.intro | omega))) | ((with_reducible apply wp_ifJF); (focus (first | ((simp (disch := omega) only [J_lit, J_add, J_sub, J_mul, J_neg, J_n, jle, jlt, jeq, jnn, jnat, Int.toNat_natCast, bJ_0, bJ_1, bft, gd_T, nar_J, nar_0, nar_1, if_true, if_false, Option.bind_some, gd_t, decide_eq_false_iff_not, decide_eq_true_eq, h.ordered]); rfl) | rfl)); (focus (first | exact not_false | omega))) | ((with_reducible apply wp_ifJ); (focus (first | ((simp (disch := omega) only [J_lit, J_add, J_sub, J_mul, J_neg, J_n, jle, jlt, jeq, jnn, jnat, Int.toNat_natCast, bJ_0, bJ_1, bft, gd_T, nar_J, nar_0, nar_1, if_true, if_false, Option.bind_some, gd_t, decide_eq_false_iff_not, decide_eq_true_eq, h.ordered]); rfl) | rfl)); all_goals intro _) | (with_reducible apply wp_some) | ((with_reducible apply wp_eli); try dsimp only) | ((with_reducible apply wp_elr); try dsimp only) | ((with_reducible apply wp_bindE); (focus ((simp (disch := omega) only [J_lit, J_add, J_sub, J_mul, J_neg, J_n, jle, jlt, jeq, jnn, jnat, Int.toNat_natCast, bJ_0, bJ_1, bft, gd_T, nar_J, nar_0, nar_1, if_true, if_false, Option.bind_some, gd_t, h.ordered]); rfl)); try dsimp only) | (with_reducible apply wp_bind))); all_goals (try (simp (disch := omega) only [J_lit, J_add, J_sub, J_mul, J_neg, J_n, jle, jlt, jeq, jnn, jnat, Int.toNat_natCast, bJ_0, bJ_1, bft, gd_T, nar_J, nar_0, nar_1, if_true, if_false, Option.bind_some, gd_t, h.ordered])))
      rfl
  have mb0 := mnE_b (fin := F) (P := P0) T.all (fb' T.all (Nat.le_refl _))
  generalize hR : mnE F P0 T.all = room at k0 mb0
  generalize hP1 : (fun i => decide ((T.ca (T.ord i)).op = (T.ca c).op ∧ (T.ca (T.ord i)).kind = 1 ∧ room ≤ (T.ca (T.ord i)).beg)) = P1
  have k1 : lpF (fun v : Int32 × Int32 => mX1_isRehearsed_b74 n FI FR AR BR AN (some (Z.c c)) (J room) v.1 v.2) n (J 2147483647, J 0) = some (J (mnE F P1 T.all)) := by
    refine wp_fold (fun k => (J (mnE F P1 k), J (k : Int))) _ T.all ?_ ?_ (by omega) rfl
    · intro k hk
      have ho := hT.ord k hk
      have hb := hT.b ho
      have mb := mnE_b (fin := F) (P := P1) k (fb' k (by omega))
      have eop := (h.ca _ ho).op
      have enm := h.oNm' hb.1 hbc.1
      have eeq := h.oEq hb.1 hbc.1
      have em : mnE F P1 (k + 1) = if (T.ca (T.ord k)).op = (T.ca c).op ∧ (T.ca (T.ord k)).kind = 1 ∧ room ≤ (T.ca (T.ord k)).beg then min (mnE F P1 k) (T.ca (T.ord k)).fin else mnE F P1 k := by
        simp only [mnE]; rw [← hP1, ← hF]; simp only [decide_eq_true_eq]
      dsimp only
      unfold mX1_isRehearsed_b74
      ((repeat' (first | ((with_reducible apply wp_let); try dsimp only) | ((with_reducible apply wp_gdJ); (focus (first | ((simp (disch := omega) only [J_lit, J_add, J_sub, J_mul, J_neg, J_n, jle, jlt, jeq, jnn, jnat, Int.toNat_natCast, bJ_0, bJ_1, bft, gd_T, nar_J, nar_0, nar_1, if_true, if_false, Option.bind_some, gd_t, h.ordered, h.order, h.cD ho, h.cD hc, eop, eopc, enm, eeq, (h.ca _ ho).kind, (h.ca _ ho).fin, (h.ca _ ho).beg, h_min]); rfl) | rfl)); (focus (first | exact True.intro | (first | exact vp_J (by omega) (by omega) (by omega) | omega)))) | ((with_reducible apply wp_ifJT); (focus (first | ((simp (disch := omega) only [J_lit, J_add, J_sub, J_mul, J_neg, J_n, jle, jlt, jeq, jnn, jnat, Int.toNat_natCast, bJ_0, bJ_1, bft, gd_T, nar_J, nar_0, nar_1, if_true, if_false, Option.bind_some, gd_t, decide_eq_false_iff_not, decide_eq_true_eq, h.ordered, h.order, h.cD ho, h.cD hc, eop, eopc, enm, eeq, (h.ca _ ho).kind, (h.ca _ ho).fin, (h.ca _ ho).beg, h_min]); rfl) | rfl)); (focus (first | exact True.intro | omega))) | ((with_reducible apply wp_ifJF); (focus (first | ((simp (disch := omega) only [J_lit, J_add, J_sub, J_mul, J_neg, J_n, jle, jlt, jeq, jnn, jnat, Int.toNat_natCast, bJ_0, bJ_1, bft, gd_T, nar_J, nar_0, nar_1, if_true, if_false, Option.bind_some, gd_t, decide_eq_false_iff_not, decide_eq_true_eq, h.ordered, h.order, h.cD ho, h.cD hc, eop, eopc, enm, eeq, (h.ca _ ho).kind, (h.ca _ ho).fin, (h.ca _ ho).beg, h_min]); rfl) | rfl)); (focus (first | exact not_false | omega))) | ((with_reducible apply wp_ifJ); (focus (first | ((simp (disch := omega) only [J_lit, J_add, J_sub, J_mul, J_neg, J_n, jle, jlt, jeq, jnn, jnat, Int.toNat_natCast, bJ_0, bJ_1, bft, gd_T, nar_J, nar_0, nar_1, if_true, if_false, Option.bind_some, gd_t, decide_eq_false_iff_not, decide_eq_true_eq, h.ordered, h.order, h.cD ho, h.cD hc, eop, eopc, enm, eeq, (h.ca _ ho).kind, (h.ca _ ho).fin, (h.ca _ ho).beg, h_min]); rfl) | rfl)); all_goals intro _) | (with_reducible apply wp_some) | ((with_reducible apply wp_eli); try dsimp only) | ((with_reducible apply wp_elr); try dsimp only) | ((with_reducible apply wp_bindE); (focus ((simp (disch := omega) only [J_lit, J_add, J_sub, J_mul, J_neg, J_n, jle, jlt, jeq, jnn, jnat, Int.toNat_natCast, bJ_0, bJ_1, bft, gd_T, nar_J, nar_0, nar_1, if_true, if_false, Option.bind_some, gd_t, h.ordered, h.order, h.cD ho, h.cD hc, eop, eopc, enm, eeq, (h.ca _ ho).kind, (h.ca _ ho).fin, (h.ca _ ho).beg, h_min]); rfl)); try dsimp only) | (with_reducible apply wp_bind))); all_goals (try (simp (disch := omega) only [J_lit, J_add, J_sub, J_mul, J_neg, J_n, jle, jlt, jeq, jnn, jnat, Int.toNat_natCast, bJ_0, bJ_1, bft, gd_T, nar_J, nar_0, nar_1, if_true, if_false, Option.bind_some, gd_t, h.ordered, h.order, h.cD ho, h.cD hc, eop, eopc, enm, eeq, (h.ca _ ho).kind, (h.ca _ ho).fin, (h.ca _ ho).beg, h_min])))
      all_goals (simp only [LR_l, em])
      all_goals (first | (rw [if_pos (by omega)]; rfl) | (rw [if_neg (by omega)]; rfl))
    · dsimp only
      unfold mX1_isRehearsed_b74
      ((repeat' (first | ((with_reducible apply wp_let); try dsimp only) | ((with_reducible apply wp_gdJ); (focus (first | ((simp (disch := omega) only [J_lit, J_add, J_sub, J_mul, J_neg, J_n, jle, jlt, jeq, jnn, jnat, Int.toNat_natCast, bJ_0, bJ_1, bft, gd_T, nar_J, nar_0, nar_1, if_true, if_false, Option.bind_some, gd_t, h.ordered]); rfl) | rfl)); (focus (first | exact True.intro | (first | exact vp_J (by omega) (by omega) (by omega) | omega)))) | ((with_reducible apply wp_ifJT); (focus (first | ((simp (disch := omega) only [J_lit, J_add, J_sub, J_mul, J_neg, J_n, jle, jlt, jeq, jnn, jnat, Int.toNat_natCast, bJ_0, bJ_1, bft, gd_T, nar_J, nar_0, nar_1, if_true, if_false, Option.bind_some, gd_t, decide_eq_false_iff_not, decide_eq_true_eq, h.ordered]); rfl) | rfl)); (focus (first | exact True.intro | omega))) | ((with_reducible apply wp_ifJF); (focus (first | ((simp (disch := omega) only [J_lit, J_add, J_sub, J_mul, J_neg, J_n, jle, jlt, jeq, jnn, jnat, Int.toNat_natCast, bJ_0, bJ_1, bft, gd_T, nar_J, nar_0, nar_1, if_true, if_false, Option.bind_some, gd_t, decide_eq_false_iff_not, decide_eq_true_eq, h.ordered]); rfl) | rfl)); (focus (first | exact not_false | omega))) | ((with_reducible apply wp_ifJ); (focus (first | ((simp (disch := omega) only [J_lit, J_add, J_sub, J_mul, J_neg, J_n, jle, jlt, jeq, jnn, jnat, Int.toNat_natCast, bJ_0, bJ_1, bft, gd_T, nar_J, nar_0, nar_1, if_true, if_false, Option.bind_some, gd_t, decide_eq_false_iff_not, decide_eq_true_eq, h.ordered]); rfl) | rfl)); all_goals intro _) | (with_reducible apply wp_some) | ((with_reducible apply wp_eli); try dsimp only) | ((with_reducible apply wp_elr); try dsimp only) | ((with_reducible apply wp_bindE); (focus ((simp (disch := omega) only [J_lit, J_add, J_sub, J_mul, J_neg, J_n, jle, jlt, jeq, jnn, jnat, Int.toNat_natCast, bJ_0, bJ_1, bft, gd_T, nar_J, nar_0, nar_1, if_true, if_false, Option.bind_some, gd_t, h.ordered]); rfl)); try dsimp only) | (with_reducible apply wp_bind))); all_goals (try (simp (disch := omega) only [J_lit, J_add, J_sub, J_mul, J_neg, J_n, jle, jlt, jeq, jnn, jnat, Int.toNat_natCast, bJ_0, bJ_1, bft, gd_T, nar_J, nar_0, nar_1, if_true, if_false, Option.bind_some, gd_t, h.ordered])))
      rfl
  have mb1 := mnE_b (fin := F) (P := P1) T.all (fb' T.all (Nat.le_refl _))
  generalize hM : mnE F P1 T.all = marks at k1 mb1
  have k2 : lpF (fun v => mX1_isRehearsed_b152 n FI FR AR BR AN (some (Z.c c)) (J marks) v) n (J 0) = some (if anyN T.all (fun i => decide ((T.ca (T.ord i)).op = (T.ca c).op ∧ (T.ca (T.ord i)).kind = 2 ∧ marks ≤ (T.ca (T.ord i)).beg ∧ (T.ca (T.ord i)).fin ≤ (T.ca c).beg)) then .inr () else .inl ()) := by
    refine wp_any _ _ ?_ ?_ (by omega : T.all < n)
    · intro k hk
      have ho := hT.ord k hk
      have hb := hT.b ho
      have eop := (h.ca _ ho).op
      have enm := h.oNm' hb.1 hbc.1
      have eeq := h.oEq hb.1 hbc.1
      unfold mX1_isRehearsed_b152
      ((repeat' (first | ((with_reducible apply wp_let); try dsimp only) | ((with_reducible apply wp_gdJ); (focus (first | ((simp (disch := omega) only [J_lit, J_add, J_sub, J_mul, J_neg, J_n, jle, jlt, jeq, jnn, jnat, Int.toNat_natCast, bJ_0, bJ_1, bft, gd_T, nar_J, nar_0, nar_1, if_true, if_false, Option.bind_some, gd_t, h.ordered, h.order, h.cD ho, h.cD hc, eop, eopc, enm, eeq, (h.ca _ ho).kind, (h.ca _ ho).fin, (h.ca _ ho).beg, (h.ca _ hc).beg]); rfl) | rfl)); (focus (first | exact True.intro | (first | exact vp_J (by omega) (by omega) (by omega) | omega)))) | ((with_reducible apply wp_ifJT); (focus (first | ((simp (disch := omega) only [J_lit, J_add, J_sub, J_mul, J_neg, J_n, jle, jlt, jeq, jnn, jnat, Int.toNat_natCast, bJ_0, bJ_1, bft, gd_T, nar_J, nar_0, nar_1, if_true, if_false, Option.bind_some, gd_t, decide_eq_false_iff_not, decide_eq_true_eq, h.ordered, h.order, h.cD ho, h.cD hc, eop, eopc, enm, eeq, (h.ca _ ho).kind, (h.ca _ ho).fin, (h.ca _ ho).beg, (h.ca _ hc).beg]); rfl) | rfl)); (focus (first | exact True.intro | omega))) | ((with_reducible apply wp_ifJF); (focus (first | ((simp (disch := omega) only [J_lit, J_add, J_sub, J_mul, J_neg, J_n, jle, jlt, jeq, jnn, jnat, Int.toNat_natCast, bJ_0, bJ_1, bft, gd_T, nar_J, nar_0, nar_1, if_true, if_false, Option.bind_some, gd_t, decide_eq_false_iff_not, decide_eq_true_eq, h.ordered, h.order, h.cD ho, h.cD hc, eop, eopc, enm, eeq, (h.ca _ ho).kind, (h.ca _ ho).fin, (h.ca _ ho).beg, (h.ca _ hc).beg]); rfl) | rfl)); (focus (first | exact not_false | omega))) | ((with_reducible apply wp_ifJ); (focus (first | ((simp (disch := omega) only [J_lit, J_add, J_sub, J_mul, J_neg, J_n, jle, jlt, jeq, jnn, jnat, Int.toNat_natCast, bJ_0, bJ_1, bft, gd_T, nar_J, nar_0, nar_1, if_true, if_false, Option.bind_some, gd_t, decide_eq_false_iff_not, decide_eq_true_eq, h.ordered, h.order, h.cD ho, h.cD hc, eop, eopc, enm, eeq, (h.ca _ ho).kind, (h.ca _ ho).fin, (h.ca _ ho).beg, (h.ca _ hc).beg]); rfl) | rfl)); all_goals intro _) | (with_reducible apply wp_some) | ((with_reducible apply wp_eli); try dsimp only) | ((with_reducible apply wp_elr); try dsimp only) | ((with_reducible apply wp_bindE); (focus ((simp (disch := omega) only [J_lit, J_add, J_sub, J_mul, J_neg, J_n, jle, jlt, jeq, jnn, jnat, Int.toNat_natCast, bJ_0, bJ_1, bft, gd_T, nar_J, nar_0, nar_1, if_true, if_false, Option.bind_some, gd_t, h.ordered, h.order, h.cD ho, h.cD hc, eop, eopc, enm, eeq, (h.ca _ ho).kind, (h.ca _ ho).fin, (h.ca _ ho).beg, (h.ca _ hc).beg]); rfl)); try dsimp only) | (with_reducible apply wp_bind))); all_goals (try (simp (disch := omega) only [J_lit, J_add, J_sub, J_mul, J_neg, J_n, jle, jlt, jeq, jnn, jnat, Int.toNat_natCast, bJ_0, bJ_1, bft, gd_T, nar_J, nar_0, nar_1, if_true, if_false, Option.bind_some, gd_t, h.ordered, h.order, h.cD ho, h.cD hc, eop, eopc, enm, eeq, (h.ca _ ho).kind, (h.ca _ ho).fin, (h.ca _ ho).beg, (h.ca _ hc).beg])))
      all_goals ((try simp only [LR_l, LR_r, Prod.mk.injEq, Sum.inl.injEq, Sum.inr.injEq, reduceCtorEq, and_true, true_and, and_false, false_and, or_false, false_or, decide_eq_true_eq, decide_eq_false_iff_not, beq_iff_eq, beq_eq_false_iff_ne, Bool.and_eq_true, Bool.and_eq_false_iff, Bool.or_eq_true, Bool.not_eq_true', Bool.not_eq_false', ne_eq, bJ_0, bJ_t, bJ_f]) <;> (first | omega | (simp_all; done) | (simp_all; omega) | (simp_all [bJ]; done) | (refine ⟨?_, ?_⟩ <;> (first | omega | (simp_all; done) | (simp_all; omega)))))
    · unfold mX1_isRehearsed_b152
      ((repeat' (first | ((with_reducible apply wp_let); try dsimp only) | ((with_reducible apply wp_gdJ); (focus (first | ((simp (disch := omega) only [J_lit, J_add, J_sub, J_mul, J_neg, J_n, jle, jlt, jeq, jnn, jnat, Int.toNat_natCast, bJ_0, bJ_1, bft, gd_T, nar_J, nar_0, nar_1, if_true, if_false, Option.bind_some, gd_t, h.ordered]); rfl) | rfl)); (focus (first | exact True.intro | (first | exact vp_J (by omega) (by omega) (by omega) | omega)))) | ((with_reducible apply wp_ifJT); (focus (first | ((simp (disch := omega) only [J_lit, J_add, J_sub, J_mul, J_neg, J_n, jle, jlt, jeq, jnn, jnat, Int.toNat_natCast, bJ_0, bJ_1, bft, gd_T, nar_J, nar_0, nar_1, if_true, if_false, Option.bind_some, gd_t, decide_eq_false_iff_not, decide_eq_true_eq, h.ordered]); rfl) | rfl)); (focus (first | exact True.intro | omega))) | ((with_reducible apply wp_ifJF); (focus (first | ((simp (disch := omega) only [J_lit, J_add, J_sub, J_mul, J_neg, J_n, jle, jlt, jeq, jnn, jnat, Int.toNat_natCast, bJ_0, bJ_1, bft, gd_T, nar_J, nar_0, nar_1, if_true, if_false, Option.bind_some, gd_t, decide_eq_false_iff_not, decide_eq_true_eq, h.ordered]); rfl) | rfl)); (focus (first | exact not_false | omega))) | ((with_reducible apply wp_ifJ); (focus (first | ((simp (disch := omega) only [J_lit, J_add, J_sub, J_mul, J_neg, J_n, jle, jlt, jeq, jnn, jnat, Int.toNat_natCast, bJ_0, bJ_1, bft, gd_T, nar_J, nar_0, nar_1, if_true, if_false, Option.bind_some, gd_t, decide_eq_false_iff_not, decide_eq_true_eq, h.ordered]); rfl) | rfl)); all_goals intro _) | (with_reducible apply wp_some) | ((with_reducible apply wp_eli); try dsimp only) | ((with_reducible apply wp_elr); try dsimp only) | ((with_reducible apply wp_bindE); (focus ((simp (disch := omega) only [J_lit, J_add, J_sub, J_mul, J_neg, J_n, jle, jlt, jeq, jnn, jnat, Int.toNat_natCast, bJ_0, bJ_1, bft, gd_T, nar_J, nar_0, nar_1, if_true, if_false, Option.bind_some, gd_t, h.ordered]); rfl)); try dsimp only) | (with_reducible apply wp_bind))); all_goals (try (simp (disch := omega) only [J_lit, J_add, J_sub, J_mul, J_neg, J_n, jle, jlt, jeq, jnn, jnat, Int.toNat_natCast, bJ_0, bJ_1, bft, gd_T, nar_J, nar_0, nar_1, if_true, if_false, Option.bind_some, gd_t, h.ordered])))
      rfl
  have r0 : ∀ x : Int, x < 100000 → (room ≤ x ↔ T.fe (T.ca c).op 0 0 T.all ≤ x) := by
    intro x hx
    rw [← hR, mnE_le (by omega), ← hP0, ← hF]
    refine Iff.trans ?_ ((ex_pos hT (p := fun d => (T.ca d).op = (T.ca c).op ∧ (T.ca d).kind = 0 ∧ 0 ≤ (T.ca d).beg ∧ (T.ca d).fin ≤ x)).trans (fe_le T _ _ _ hx _).symm)
    constructor
    · rintro ⟨i, a, b, d⟩
      have := hT.b (hT.ord i a)
      simp only [decide_eq_true_eq] at b
      exact ⟨i, a, b.1, b.2, by omega, d⟩
    · rintro ⟨i, a, b, d, e, f⟩
      exact ⟨i, a, by simp [b, d], f⟩
  have r1 : ∀ x : Int, x < 100000 → (marks ≤ x ↔ T.fe (T.ca c).op 1 (T.fe (T.ca c).op 0 0 T.all) T.all ≤ x) := by
    intro x hx
    rw [← hM, mnE_le (by omega), ← hP1, ← hF]
    refine Iff.trans ?_ ((ex_pos hT (p := fun d => (T.ca d).op = (T.ca c).op ∧ (T.ca d).kind = 1 ∧ T.fe (T.ca c).op 0 0 T.all ≤ (T.ca d).beg ∧ (T.ca d).fin ≤ x)).trans (fe_le T _ _ _ hx _).symm)
    constructor
    · rintro ⟨i, a, b, d⟩
      have := hT.b (hT.ord i a)
      simp only [decide_eq_true_eq] at b
      exact ⟨i, a, b.1, b.2.1, (r0 _ (by omega)).mp b.2.2, d⟩
    · rintro ⟨i, a, b, d, e, f⟩
      have := hT.b (hT.ord i a)
      exact ⟨i, a, by simp only [decide_eq_true_eq]; exact ⟨b, d, (r0 _ (by omega)).mpr e⟩, f⟩
  have r2 : anyN T.all (fun i => decide ((T.ca (T.ord i)).op = (T.ca c).op ∧ (T.ca (T.ord i)).kind = 2 ∧ marks ≤ (T.ca (T.ord i)).beg ∧ (T.ca (T.ord i)).fin ≤ (T.ca c).beg)) = decide (T.fe (T.ca c).op 2 (T.fe (T.ca c).op 1 (T.fe (T.ca c).op 0 0 T.all) T.all) T.all ≤ (T.ca c).beg) := by
    rw [Bool.eq_iff_iff, anyN_iff, decide_eq_true_eq]
    refine Iff.trans ?_ ((ex_pos hT (p := fun d => (T.ca d).op = (T.ca c).op ∧ (T.ca d).kind = 2 ∧ T.fe (T.ca c).op 1 (T.fe (T.ca c).op 0 0 T.all) T.all ≤ (T.ca d).beg ∧ (T.ca d).fin ≤ (T.ca c).beg)).trans (fe_le T _ _ _ (by omega) _).symm)
    constructor
    · rintro ⟨i, a, b⟩
      have := hT.b (hT.ord i a)
      simp only [decide_eq_true_eq] at b
      exact ⟨i, a, b.1, b.2.1, (r1 _ (by omega)).mp b.2.2.1, b.2.2.2⟩
    · rintro ⟨i, a, b, d, e, f⟩
      have := hT.b (hT.ord i a)
      exact ⟨i, a, by simp only [decide_eq_true_eq]; exact ⟨b, d, (r1 _ (by omega)).mpr e, f⟩⟩
  rw [r2] at k2
  apply wp_eq
  unfold mX1_isRehearsed
  cases hq : decide (T.fe (T.ca c).op 2 (T.fe (T.ca c).op 1 (T.fe (T.ca c).op 0 0 T.all) T.all) T.all ≤ (T.ca c).beg) with
  | true =>
    rw [hq, if_pos rfl] at k2
    ((repeat' (first | ((with_reducible apply wp_let); try dsimp only) | ((with_reducible apply wp_gdJ); (focus (first | ((simp (disch := omega) only [J_lit, J_add, J_sub, J_mul, J_neg, J_n, jle, jlt, jeq, jnn, jnat, Int.toNat_natCast, bJ_0, bJ_1, bft, gd_T, nar_J, nar_0, nar_1, if_true, if_false, Option.bind_some, gd_t, k0, k1, k2]); rfl) | rfl)); (focus (first | exact True.intro | (first | exact vp_J (by omega) (by omega) (by omega) | omega)))) | ((with_reducible apply wp_ifJT); (focus (first | ((simp (disch := omega) only [J_lit, J_add, J_sub, J_mul, J_neg, J_n, jle, jlt, jeq, jnn, jnat, Int.toNat_natCast, bJ_0, bJ_1, bft, gd_T, nar_J, nar_0, nar_1, if_true, if_false, Option.bind_some, gd_t, decide_eq_false_iff_not, decide_eq_true_eq, k0, k1, k2]); rfl) | rfl)); (focus (first | exact True.intro | omega))) | ((with_reducible apply wp_ifJF); (focus (first | ((simp (disch := omega) only [J_lit, J_add, J_sub, J_mul, J_neg, J_n, jle, jlt, jeq, jnn, jnat, Int.toNat_natCast, bJ_0, bJ_1, bft, gd_T, nar_J, nar_0, nar_1, if_true, if_false, Option.bind_some, gd_t, decide_eq_false_iff_not, decide_eq_true_eq, k0, k1, k2]); rfl) | rfl)); (focus (first | exact not_false | omega))) | ((with_reducible apply wp_ifJ); (focus (first | ((simp (disch := omega) only [J_lit, J_add, J_sub, J_mul, J_neg, J_n, jle, jlt, jeq, jnn, jnat, Int.toNat_natCast, bJ_0, bJ_1, bft, gd_T, nar_J, nar_0, nar_1, if_true, if_false, Option.bind_some, gd_t, decide_eq_false_iff_not, decide_eq_true_eq, k0, k1, k2]); rfl) | rfl)); all_goals intro _) | (with_reducible apply wp_some) | ((with_reducible apply wp_eli); try dsimp only) | ((with_reducible apply wp_elr); try dsimp only) | ((with_reducible apply wp_bindE); (focus ((simp (disch := omega) only [J_lit, J_add, J_sub, J_mul, J_neg, J_n, jle, jlt, jeq, jnn, jnat, Int.toNat_natCast, bJ_0, bJ_1, bft, gd_T, nar_J, nar_0, nar_1, if_true, if_false, Option.bind_some, gd_t, k0, k1, k2]); rfl)); try dsimp only) | (with_reducible apply wp_bind))); all_goals (try (simp (disch := omega) only [J_lit, J_add, J_sub, J_mul, J_neg, J_n, jle, jlt, jeq, jnn, jnat, Int.toNat_natCast, bJ_0, bJ_1, bft, gd_T, nar_J, nar_0, nar_1, if_true, if_false, Option.bind_some, gd_t, k0, k1, k2])))
    rfl
  | false =>
    rw [hq, if_neg (by simp)] at k2
    ((repeat' (first | ((with_reducible apply wp_let); try dsimp only) | ((with_reducible apply wp_gdJ); (focus (first | ((simp (disch := omega) only [J_lit, J_add, J_sub, J_mul, J_neg, J_n, jle, jlt, jeq, jnn, jnat, Int.toNat_natCast, bJ_0, bJ_1, bft, gd_T, nar_J, nar_0, nar_1, if_true, if_false, Option.bind_some, gd_t, k0, k1, k2]); rfl) | rfl)); (focus (first | exact True.intro | (first | exact vp_J (by omega) (by omega) (by omega) | omega)))) | ((with_reducible apply wp_ifJT); (focus (first | ((simp (disch := omega) only [J_lit, J_add, J_sub, J_mul, J_neg, J_n, jle, jlt, jeq, jnn, jnat, Int.toNat_natCast, bJ_0, bJ_1, bft, gd_T, nar_J, nar_0, nar_1, if_true, if_false, Option.bind_some, gd_t, decide_eq_false_iff_not, decide_eq_true_eq, k0, k1, k2]); rfl) | rfl)); (focus (first | exact True.intro | omega))) | ((with_reducible apply wp_ifJF); (focus (first | ((simp (disch := omega) only [J_lit, J_add, J_sub, J_mul, J_neg, J_n, jle, jlt, jeq, jnn, jnat, Int.toNat_natCast, bJ_0, bJ_1, bft, gd_T, nar_J, nar_0, nar_1, if_true, if_false, Option.bind_some, gd_t, decide_eq_false_iff_not, decide_eq_true_eq, k0, k1, k2]); rfl) | rfl)); (focus (first | exact not_false | omega))) | ((with_reducible apply wp_ifJ); (focus (first | ((simp (disch := omega) only [J_lit, J_add, J_sub, J_mul, J_neg, J_n, jle, jlt, jeq, jnn, jnat, Int.toNat_natCast, bJ_0, bJ_1, bft, gd_T, nar_J, nar_0, nar_1, if_true, if_false, Option.bind_some, gd_t, decide_eq_false_iff_not, decide_eq_true_eq, k0, k1, k2]); rfl) | rfl)); all_goals intro _) | (with_reducible apply wp_some) | ((with_reducible apply wp_eli); try dsimp only) | ((with_reducible apply wp_elr); try dsimp only) | ((with_reducible apply wp_bindE); (focus ((simp (disch := omega) only [J_lit, J_add, J_sub, J_mul, J_neg, J_n, jle, jlt, jeq, jnn, jnat, Int.toNat_natCast, bJ_0, bJ_1, bft, gd_T, nar_J, nar_0, nar_1, if_true, if_false, Option.bind_some, gd_t, k0, k1, k2]); rfl)); try dsimp only) | (with_reducible apply wp_bind))); all_goals (try (simp (disch := omega) only [J_lit, J_add, J_sub, J_mul, J_neg, J_n, jle, jlt, jeq, jnn, jnat, Int.toNat_natCast, bJ_0, bJ_1, bft, gd_T, nar_J, nar_0, nar_1, if_true, if_false, Option.bind_some, gd_t, k0, k1, k2])))
    rfl
end
end
