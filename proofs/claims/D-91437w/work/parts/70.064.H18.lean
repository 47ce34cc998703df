noncomputable section
set_option linter.unusedVariables false
set_option linter.unusedSimpArgs false
/-! PLAIN 58: the house: who may have a role, 2 -/
section
variable {T : PTb} {Z : PZ} {FI : OhI} {FR GR : OhQ} {AI : OhI} {AR BR : OhQ} {AN : OhN} {n : Nat}
theorem sumT {γ δ : Type} (b : Bool) {f g : γ → δ} {x : γ} : Sum.elim f g (if b = true then Sum.inr x else Sum.inl x) = if b = true then g x else f x := by cases b <;> rfl
def nwr (T : PTb) (AI : OhI) (s c : Nat) : Bool := anyN 8 fun r => decide (T.cast c r = (s : Int)) && !decide (((AI 422 c r &&& J 64768) &&& (AI 428 c r ^^^ J (-1))) = J 0)
theorem h_isNew1 (h : HTb T Z FI FR GR AI BR AN) (hT : PTbOk T) (hl : HLn AN) (hn : 10000 ≤ n) {s : Nat} (hs : s < 20) {c : Nat} (hc : c < T.all) {k : Nat} :
    lpF (fun v => mX1_isAnythingNew_b23 n FI FR AI AR BR AN (J s) (J k) (J (c : Int)) v) n (J 0) = some (if nwr T AI s c then .inr () else .inl ()) := by
  have h66 := hT.all
  have hS := hT.S.nS
  refine wp_any _ _ ?_ ?_ (by omega : 8 < n)
  · intro r hr
    have ec := h.cast c r hc hr
    have hcb := hT.cast c r hc hr
    unfold mX1_isAnythingNew_b23
    ((repeat' (first | ((with_reducible apply wp_let); try dsimp only) | ((with_reducible apply wp_gdJ); (focus (first | ((simp (disch := omega) only [J_lit, J_add, J_sub, J_mul, J_neg, J_n, jle, jlt, jeq, jnn, jnat, Int.toNat_natCast, bJ_0, bJ_1, bft, gd_T, nar_J, nar_0, nar_1, if_true, if_false, Option.bind_some, gd_t, ec]); rfl) | rfl)); (focus (first | exact True.intro | (first | exact vp_J (by omega) (by omega) (by omega) | omega)))) | ((with_reducible apply wp_ifJT); (focus (first | ((simp (disch := omega) only [J_lit, J_add, J_sub, J_mul, J_neg, J_n, jle, jlt, jeq, jnn, jnat, Int.toNat_natCast, bJ_0, bJ_1, bft, gd_T, nar_J, nar_0, nar_1, if_true, if_false, Option.bind_some, gd_t, decide_eq_false_iff_not, decide_eq_true_eq, ec]); rfl) | rfl)); (focus (first | exact True.intro | omega))) | ((with_reducible apply wp_ifJF); (focus (first | ((simp (disch := omega) only [J_lit, J_add, J_sub, J_mul, J_neg, J_n, jle, jlt, jeq, jnn, jnat, Int.toNat_natCast, bJ_0, bJ_1, bft, gd_T, nar_J, nar_0, nar_1, if_true, if_false, Option.bind_some, gd_t, decide_eq_false_iff_not, decide_eq_true_eq, ec]); rfl) | rfl)); (focus (first | exact not_false | omega))) | ((with_reducible apply wp_ifJ); (focus (first | ((simp (disch := omega) only [J_lit, J_add, J_sub, J_mul, J_neg, J_n, jle, jlt, jeq, jnn, jnat, Int.toNat_natCast, bJ_0, bJ_1, bft, gd_T, nar_J, nar_0, nar_1, if_true, if_false, Option.bind_some, gd_t, decide_eq_false_iff_not, decide_eq_true_eq, ec]); rfl) | rfl)); all_goals intro _) | (with_reducible apply wp_some) | ((with_reducible apply wp_eli); try dsimp only) | ((with_reducible apply wp_elr); try dsimp only) | ((with_reducible apply wp_bindE); (focus ((simp (disch := omega) only [J_lit, J_add, J_sub, J_mul, J_neg, J_n, jle, jlt, jeq, jnn, jnat, Int.toNat_natCast, bJ_0, bJ_1, bft, gd_T, nar_J, nar_0, nar_1, if_true, if_false, Option.bind_some, gd_t, ec]); rfl)); try dsimp only) | (with_reducible apply wp_bind))); all_goals (try (simp (disch := omega) only [J_lit, J_add, J_sub, J_mul, J_neg, J_n, jle, jlt, jeq, jnn, jnat, Int.toNat_natCast, bJ_0, bJ_1, bft, gd_T, nar_J, nar_0, nar_1, if_true, if_false, Option.bind_some, gd_t, ec])))
    · rename_i q1 q2; refine ⟨?_, rfl⟩; rw [q2]; simp
    · rename_i q1 q2; refine ⟨?_, rfl⟩; rw [decide_eq_true q1, decide_eq_false q2]; rfl
    · rename_i q1; refine ⟨?_, rfl⟩; rw [decide_eq_false q1]; rfl
  · unfold mX1_isAnythingNew_b23
    ((repeat' (first | ((with_reducible apply wp_let); try dsimp only) | ((with_reducible apply wp_gdJ); (focus (first | ((simp (disch := omega) only [J_lit, J_add, J_sub, J_mul, J_neg, J_n, jle, jlt, jeq, jnn, jnat, Int.toNat_natCast, bJ_0, bJ_1, bft, gd_T, nar_J, nar_0, nar_1, if_true, if_false, Option.bind_some, gd_t]); rfl) | rfl)); (focus (first | exact True.intro | (first | exact vp_J (by omega) (by omega) (by omega) | omega)))) | ((with_reducible apply wp_ifJT); (focus (first | ((simp (disch := omega) only [J_lit, J_add, J_sub, J_mul, J_neg, J_n, jle, jlt, jeq, jnn, jnat, Int.toNat_natCast, bJ_0, bJ_1, bft, gd_T, nar_J, nar_0, nar_1, if_true, if_false, Option.bind_some, gd_t, decide_eq_false_iff_not, decide_eq_true_eq]); rfl) | rfl)); (focus (first | exact True.intro | omega))) | ((with_reducible apply wp_ifJF); (focus (first | ((simp (disch := omega) only [J_lit, J_add, J_sub, J_mul, J_neg, J_n, jle, jlt, jeq, jnn, jnat, Int.toNat_natCast, bJ_0, bJ_1, bft, gd_T, nar_J, nar_0, nar_1, if_true, if_false, Option.bind_some, gd_t, decide_eq_false_iff_not, decide_eq_true_eq]); rfl) | rfl)); (focus (first | exact not_false | omega))) | ((with_reducible apply wp_ifJ); (focus (first | ((simp (disch := omega) only [J_lit, J_add, J_sub, J_mul, J_neg, J_n, jle, jlt, jeq, jnn, jnat, Int.toNat_natCast, bJ_0, bJ_1, bft, gd_T, nar_J, nar_0, nar_1, if_true, if_false, Option.bind_some, gd_t, decide_eq_false_iff_not, decide_eq_true_eq]); rfl) | rfl)); all_goals intro _) | (with_reducible apply wp_some) | ((with_reducible apply wp_eli); try dsimp only) | ((with_reducible apply wp_elr); try dsimp only) | ((with_reducible apply wp_bindE); (focus ((simp (disch := omega) only [J_lit, J_add, J_sub, J_mul, J_neg, J_n, jle, jlt, jeq, jnn, jnat, Int.toNat_natCast, bJ_0, bJ_1, bft, gd_T, nar_J, nar_0, nar_1, if_true, if_false, Option.bind_some, gd_t]); rfl)); try dsimp only) | (with_reducible apply wp_bind))); all_goals (try (simp (disch := omega) only [J_lit, J_add, J_sub, J_mul, J_neg, J_n, jle, jlt, jeq, jnn, jnat, Int.toNat_natCast, bJ_0, bJ_1, bft, gd_T, nar_J, nar_0, nar_1, if_true, if_false, Option.bind_some, gd_t])))
    rfl
theorem h_isNew (h : HTb T Z FI FR GR AI BR AN) (hT : PTbOk T) (hl : HLn AN) (hn : 10000 ≤ n) {s : Nat} (hs : s < 20) :
    mX1_isAnythingNew n FI FR AI AR BR AN (J s) = some (bJ (anyN T.all fun c => nwr T AI s c)) := by
  have h66 := hT.all
  have e : (anyN T.all fun c => nwr T AI s c) = anyN T.all fun i => nwr T AI s (T.ord i) := by
    rw [any_pos hT (p := nwr T AI s) (Nat.le_refl _)]
    exact anyN_congr fun d hd => by rw [decide_eq_true (hT.pos d hd), Bool.true_and]
  rw [e]
  have key : lpF (fun v => mX1_isAnythingNew_b2 n FI FR AI AR BR AN (J s) v) n (J 0) = some (if anyN T.all (fun i => nwr T AI s (T.ord i)) then .inr () else .inl ()) := by
    refine wp_any _ _ ?_ ?_ (by omega : T.all < n)
    · intro i hi
      have ho := hT.ord i (by omega)
      have e1 := h_isNew1 (n := n) (AR := AR) h hT hl hn hs ho (k := i)
      unfold mX1_isAnythingNew_b2
      cases hb : nwr T AI s (T.ord i) with
      | false =>
        rw [hb, if_neg (by simp)] at e1
        ((repeat' (first | ((with_reducible apply wp_let); try dsimp only) | ((with_reducible apply wp_gdJ); (focus (first | ((simp (disch := omega) only [J_lit, J_add, J_sub, J_mul, J_neg, J_n, jle, jlt, jeq, jnn, jnat, Int.toNat_natCast, bJ_0, bJ_1, bft, gd_T, nar_J, nar_0, nar_1, if_true, if_false, Option.bind_some, gd_t, h.ordered, h.order, h.cD ho, (h.ca _ ho).num, e1]); rfl) | rfl)); (focus (first | exact True.intro | (first | exact vp_J (by omega) (by omega) (by omega) | omega)))) | ((with_reducible apply wp_ifJT); (focus (first | ((simp (disch := omega) only [J_lit, J_add, J_sub, J_mul, J_neg, J_n, jle, jlt, jeq, jnn, jnat, Int.toNat_natCast, bJ_0, bJ_1, bft, gd_T, nar_J, nar_0, nar_1, if_true, if_false, Option.bind_some, gd_t, decide_eq_false_iff_not, decide_eq_true_eq, h.ordered, h.order, h.cD ho, (h.ca _ ho).num, e1]); rfl) | rfl)); (focus (first | exact True.intro | omega))) | ((with_reducible apply wp_ifJF); (focus (first | ((simp (disch := omega) only [J_lit, J_add, J_sub, J_mul, J_neg, J_n, jle, jlt, jeq, jnn, jnat, Int.toNat_natCast, bJ_0, bJ_1, bft, gd_T, nar_J, nar_0, nar_1, if_true, if_false, Option.bind_some, gd_t, decide_eq_false_iff_not, decide_eq_true_eq, h.ordered, h.order, h.cD ho, (h.ca _ ho).num, e1]); rfl) | rfl)); (focus (first | exact not_false | omega))) | ((with_reducible apply wp_ifJ); (focus (first | ((simp (disch := omega) only [J_lit, J_add, J_sub, J_mul, J_neg, J_n, jle, jlt, jeq, jnn, jnat, Int.toNat_natCast, bJ_0, bJ_1, bft, gd_T, nar_J, nar_0, nar_1, if_true, if_false, Option.bind_some, gd_t, decide_eq_false_iff_not, decide_eq_true_eq, h.ordered, h.order, h.cD ho, (h.ca _ ho).num, e1]); rfl) | rfl)); all_goals intro _) | (with_reducible apply wp_some) | ((with_reducible apply wp_eli); try dsimp only) | ((with_reducible apply wp_elr); try dsimp only) | ((with_reducible apply wp_bindE); (focus ((simp (disch := omega) only [J_lit, J_add, J_sub, J_mul, J_neg, J_n, jle, jlt, jeq, jnn, jnat, Int.toNat_natCast, bJ_0, bJ_1, bft, gd_T, nar_J, nar_0, nar_1, if_true, if_false, Option.bind_some, gd_t, h.ordered, h.order, h.cD ho, (h.ca _ ho).num, e1]); rfl)); try dsimp only) | (with_reducible apply wp_bind))); all_goals (try (simp (disch := omega) only [J_lit, J_add, J_sub, J_mul, J_neg, J_n, jle, jlt, jeq, jnn, jnat, Int.toNat_natCast, bJ_0, bJ_1, bft, gd_T, nar_J, nar_0, nar_1, if_true, if_false, Option.bind_some, gd_t, h.ordered, h.order, h.cD ho, (h.ca _ ho).num, e1])))
        exact ⟨True.intro, rfl⟩
      | true =>
        rw [hb, if_pos rfl] at e1
        ((repeat' (first | ((with_reducible apply wp_let); try dsimp only) | ((with_reducible apply wp_gdJ); (focus (first | ((simp (disch := omega) only [J_lit, J_add, J_sub, J_mul, J_neg, J_n, jle, jlt, jeq, jnn, jnat, Int.toNat_natCast, bJ_0, bJ_1, bft, gd_T, nar_J, nar_0, nar_1, if_true, if_false, Option.bind_some, gd_t, h.ordered, h.order, h.cD ho, (h.ca _ ho).num, e1]); rfl) | rfl)); (focus (first | exact True.intro | (first | exact vp_J (by omega) (by omega) (by omega) | omega)))) | ((with_reducible apply wp_ifJT); (focus (first | ((simp (disch := omega) only [J_lit, J_add, J_sub, J_mul, J_neg, J_n, jle, jlt, jeq, jnn, jnat, Int.toNat_natCast, bJ_0, bJ_1, bft, gd_T, nar_J, nar_0, nar_1, if_true, if_false, Option.bind_some, gd_t, decide_eq_false_iff_not, decide_eq_true_eq, h.ordered, h.order, h.cD ho, (h.ca _ ho).num, e1]); rfl) | rfl)); (focus (first | exact True.intro | omega))) | ((with_reducible apply wp_ifJF); (focus (first | ((simp (disch := omega) only [J_lit, J_add, J_sub, J_mul, J_neg, J_n, jle, jlt, jeq, jnn, jnat, Int.toNat_natCast, bJ_0, bJ_1, bft, gd_T, nar_J, nar_0, nar_1, if_true, if_false, Option.bind_some, gd_t, decide_eq_false_iff_not, decide_eq_true_eq, h.ordered, h.order, h.cD ho, (h.ca _ ho).num, e1]); rfl) | rfl)); (focus (first | exact not_false | omega))) | ((with_reducible apply wp_ifJ); (focus (first | ((simp (disch := omega) only [J_lit, J_add, J_sub, J_mul, J_neg, J_n, jle, jlt, jeq, jnn, jnat, Int.toNat_natCast, bJ_0, bJ_1, bft, gd_T, nar_J, nar_0, nar_1, if_true, if_false, Option.bind_some, gd_t, decide_eq_false_iff_not, decide_eq_true_eq, h.ordered, h.order, h.cD ho, (h.ca _ ho).num, e1]); rfl) | rfl)); all_goals intro _) | (with_reducible apply wp_some) | ((with_reducible apply wp_eli); try dsimp only) | ((with_reducible apply wp_elr); try dsimp only) | ((with_reducible apply wp_bindE); (focus ((simp (disch := omega) only [J_lit, J_add, J_sub, J_mul, J_neg, J_n, jle, jlt, jeq, jnn, jnat, Int.toNat_natCast, bJ_0, bJ_1, bft, gd_T, nar_J, nar_0, nar_1, if_true, if_false, Option.bind_some, gd_t, h.ordered, h.order, h.cD ho, (h.ca _ ho).num, e1]); rfl)); try dsimp only) | (with_reducible apply wp_bind))); all_goals (try (simp (disch := omega) only [J_lit, J_add, J_sub, J_mul, J_neg, J_n, jle, jlt, jeq, jnn, jnat, Int.toNat_natCast, bJ_0, bJ_1, bft, gd_T, nar_J, nar_0, nar_1, if_true, if_false, Option.bind_some, gd_t, h.ordered, h.order, h.cD ho, (h.ca _ ho).num, e1])))
        exact ⟨True.intro, rfl⟩
    · unfold mX1_isAnythingNew_b2
      ((repeat' (first | ((with_reducible apply wp_let); try dsimp only) | ((with_reducible apply wp_gdJ); (focus (first | ((simp (disch := omega) only [J_lit, J_add, J_sub, J_mul, J_neg, J_n, jle, jlt, jeq, jnn, jnat, Int.toNat_natCast, bJ_0, bJ_1, bft, gd_T, nar_J, nar_0, nar_1, if_true, if_false, Option.bind_some, gd_t, h.ordered]); rfl) | rfl)); (focus (first | exact True.intro | (first | exact vp_J (by omega) (by omega) (by omega) | omega)))) | ((with_reducible apply wp_ifJT); (focus (first | ((simp (disch := omega) only [J_lit, J_add, J_sub, J_mul, J_neg, J_n, jle, jlt, jeq, jnn, jnat, Int.toNat_natCast, bJ_0, bJ_1, bft, gd_T, nar_J, nar_0, nar_1, if_true, if_false, Option.bind_some, gd_t, decide_eq_false_iff_not, decide_eq_true_eq, h.ordered]); rfl) | rfl)); (focus (first | exact True.intro | omega))) | ((with_reducible apply wp_ifJF); (focus (first | ((simp (disch := omega) only [J_lit, J_add, J_sub, J_mul, J_neg, J_n, jle, jlt, jeq, jnn, jnat, Int.toNat_natCast, bJ_0, bJ_1, bft, gd_T, nar_J, nar_0, nar_1, if_true, if_false, Option.bind_some, gd_t, decide_eq_false_iff_not, decide_eq_true_eq, h.ordered]); rfl) | rfl)); (focus (first | exact not_false | omega))) | ((with_reducible apply wp_ifJ); (focus (first | ((simp (disch := omega) only [J_lit, J_add, J_sub, J_mul, J_neg, J_n, jle, jlt, jeq, jnn, jnat, Int.toNat_natCast, bJ_0, bJ_1, bft, gd_T, nar_J, nar_0, nar_1, if_true, if_false, Option.bind_some, gd_t, decide_eq_false_iff_not, decide_eq_true_eq, h.ordered]); rfl) | rfl)); all_goals intro _) | (with_reducible apply wp_some) | ((with_reducible apply wp_eli); try dsimp only) | ((with_reducible apply wp_elr); try dsimp only) | ((with_reducible apply wp_bindE); (focus ((simp (disch := omega) only [J_lit, J_add, J_sub, J_mul, J_neg, J_n, jle, jlt, jeq, jnn, jnat, Int.toNat_natCast, bJ_0, bJ_1, bft, gd_T, nar_J, nar_0, nar_1, if_true, if_false, Option.bind_some, gd_t, h.ordered]); rfl)); try dsimp only) | (with_reducible apply wp_bind))); all_goals (try (simp (disch := omega) only [J_lit, J_add, J_sub, J_mul, J_neg, J_n, jle, jlt, jeq, jnn, jnat, Int.toNat_natCast, bJ_0, bJ_1, bft, gd_T, nar_J, nar_0, nar_1, if_true, if_false, Option.bind_some, gd_t, h.ordered])))
      rfl
  apply wp_eq
  unfold mX1_isAnythingNew
  rw [J_0, J_1]
  generalize anyN T.all (fun i => nwr T AI s (T.ord i)) = b at key
  cases b <;> (rw [key]; exact ⟨_, rfl, rfl⟩)
theorem new_ok (hT : PTbOk T) {c r s : Nat} (hc : c < T.all) (hr : r < T.nr c) {A4 : OhI} {W0 : Nat → Nat → Int32} (w4 : WrA (T.give c r s) A4) (w0 : ∀ c r j, c < T.all → r < 9 → j < 32 → bt (W0 c r) j = T.wbit c r j) (hh : ∀ c r, c < T.all → r < 8 → A4 428 c r = if T.cast c r = (s : Int) then W0 c r &&& J 64768 else J 0) :
    (anyN (T.give c r s).all fun c2 => nwr (T.give c r s) A4 s c2) = T.newW (T.give c r s) s := by
  refine anyN_congr fun c2 hc2 => ?_
  have hb := hT.b hc2
  have enr : (T.give c r s).nr c2 = T.nr c2 := rfl
  unfold nwr
  rw [Bool.eq_iff_iff, anyN_iff, anyN_iff]
  constructor
  · rintro ⟨r2, hr2, q⟩
    simp only [Bool.and_eq_true, decide_eq_true_eq, Bool.not_eq_true', decide_eq_false_iff_not] at q
    by_cases e : r2 < T.nr c2
    · refine ⟨r2, by rw [enr]; exact e, ?_⟩
      have := (not_congr (isNew_eq (T := T) (T2 := T.give c r s) (s := s) e hr2 rfl q.1 (fun j hj => w4 c2 r2 j hc2 (by omega) hj) (fun j hj => w0 c2 r2 j hc2 (by omega) hj) (hh c2 r2 hc2 hr2))).mp q.2
      rw [Bool.not_eq_false] at this
      rw [this, Bool.and_true, beq_iff_eq]; exact q.1
    · exfalso
      refine q.2 (bt_eq0.mpr fun j hj => ?_)
      rw [bt_and, bt_and, w4 c2 r2 j hc2 (by omega) hj]
      unfold PTb.wbit
      rw [if_neg (by omega), decide_eq_false (by rw [enr]; exact e)]; simp
  · rintro ⟨r2, hr2, q⟩
    rw [enr] at hr2
    rw [Bool.and_eq_true, beq_iff_eq] at q
    refine ⟨r2, by omega, ?_⟩
    have := (not_congr (isNew_eq (T := T) (T2 := T.give c r s) (s := s) hr2 (by omega : r2 < 8) rfl q.1 (fun j hj => w4 c2 r2 j hc2 (by omega) hj) (fun j hj => w0 c2 r2 j hc2 (by omega) hj) (hh c2 r2 hc2 (by omega)))).mpr (by rw [q.2]; simp)
    rw [decide_eq_true q.1, decide_eq_false this]; rfl
theorem h_mayHave (h : HTb T Z FI FR GR AI BR AN) (hT : PTbOk T) (hl : HLn AN) (hw : HWg FI AI) (h324 : ∃ q, swA 324 q AI) (hn : 10000 ≤ n) {s c r : Nat} (hs : s < T.S.nS) (hc : c < T.all) (hr : r < T.nr c) :
    ∃ A, mX1_mayHave n FI FR GR AI AR BR AN (J s) (some (Z.c c)) (J r) = some (bJ (T.mayHave s c r), A) ∧ eqx scH AI A ∧ HTb T Z FI FR GR A BR AN ∧ ∃ q, swA 324 q A := by
  have h66 := hT.all
  have hb := hT.b hc
  have hS := hT.S.nS
  have htd := hT.S.today
  have ecast := h_isCast (n := n) (AR := AR) h hT hn (s := (s : Int)) (by omega) (by omega) hc
  by_cases e0 : (T.ca c).day < T.S.today
  · refine ⟨AI, wp_eq ?_, eqx_refl, h, h324⟩
    unfold mX1_mayHave
    ((repeat' (first | ((with_reducible apply wp_let); try dsimp only) | ((with_reducible apply wp_gdJ); (focus (first | ((simp (disch := omega) only [J_lit, J_add, J_sub, J_mul, J_neg, J_n, jle, jlt, jeq, jnn, jnat, Int.toNat_natCast, bJ_0, bJ_1, bft, gd_T, nar_J, nar_0, nar_1, if_true, if_false, Option.bind_some, gd_t, h.cD hc, (h.ca c hc).day, h.today]); rfl) | rfl)); (focus (first | exact True.intro | (first | exact vp_J (by omega) (by omega) (by omega) | omega)))) | ((with_reducible apply wp_ifJT); (focus (first | ((simp (disch := omega) only [J_lit, J_add, J_sub, J_mul, J_neg, J_n, jle, jlt, jeq, jnn, jnat, Int.toNat_natCast, bJ_0, bJ_1, bft, gd_T, nar_J, nar_0, nar_1, if_true, if_false, Option.bind_some, gd_t, decide_eq_false_iff_not, decide_eq_true_eq, h.cD hc, (h.ca c hc).day, h.today]); rfl) | rfl)); (focus (first | exact True.intro | omega))) | ((with_reducible apply wp_ifJF); (focus (first | ((simp (disch := omega) only [J_lit, J_add, J_sub, J_mul, J_neg, J_n, jle, jlt, jeq, jnn, jnat, Int.toNat_natCast, bJ_0, bJ_1, bft, gd_T, nar_J, nar_0, nar_1, if_true, if_false, Option.bind_some, gd_t, decide_eq_false_iff_not, decide_eq_true_eq, h.cD hc, (h.ca c hc).day, h.today]); rfl) | rfl)); (focus (first | exact not_false | omega))) | ((with_reducible apply wp_ifJ); (focus (first | ((simp (disch := omega) only [J_lit, J_add, J_sub, J_mul, J_neg, J_n, jle, jlt, jeq, jnn, jnat, Int.toNat_natCast, bJ_0, bJ_1, bft, gd_T, nar_J, nar_0, nar_1, if_true, if_false, Option.bind_some, gd_t, decide_eq_false_iff_not, decide_eq_true_eq, h.cD hc, (h.ca c hc).day, h.today]); rfl) | rfl)); all_goals intro _) | (with_reducible apply wp_some) | ((with_reducible apply wp_eli); try dsimp only) | ((with_reducible apply wp_elr); try dsimp only) | ((with_reducible apply wp_bindE); (focus ((simp (disch := omega) only [J_lit, J_add, J_sub, J_mul, J_neg, J_n, jle, jlt, jeq, jnn, jnat, Int.toNat_natCast, bJ_0, bJ_1, bft, gd_T, nar_J, nar_0, nar_1, if_true, if_false, Option.bind_some, gd_t, h.cD hc, (h.ca c hc).day, h.today]); rfl)); try dsimp only) | (with_reducible apply wp_bind))); all_goals (try (simp (disch := omega) only [J_lit, J_add, J_sub, J_mul, J_neg, J_n, jle, jlt, jeq, jnn, jnat, Int.toNat_natCast, bJ_0, bJ_1, bft, gd_T, nar_J, nar_0, nar_1, if_true, if_false, Option.bind_some, gd_t, h.cD hc, (h.ca c hc).day, h.today])))
    rw [show T.mayHave s c r = false by unfold PTb.mayHave; simp [e0]]; rfl
  cases e1 : T.isCast s c with
  | true =>
    rw [e1] at ecast
    refine ⟨AI, wp_eq ?_, eqx_refl, h, h324⟩
    unfold mX1_mayHave
    ((repeat' (first | ((with_reducible apply wp_let); try dsimp only) | ((with_reducible apply wp_gdJ); (focus (first | ((simp (disch := omega) only [J_lit, J_add, J_sub, J_mul, J_neg, J_n, jle, jlt, jeq, jnn, jnat, Int.toNat_natCast, bJ_0, bJ_1, bft, gd_T, nar_J, nar_0, nar_1, if_true, if_false, Option.bind_some, gd_t, h.cD hc, (h.ca c hc).day, h.today, ecast, bJ_t]); rfl) | rfl)); (focus (first | exact True.intro | (first | exact vp_J (by omega) (by omega) (by omega) | omega)))) | ((with_reducible apply wp_ifJT); (focus (first | ((simp (disch := omega) only [J_lit, J_add, J_sub, J_mul, J_neg, J_n, jle, jlt, jeq, jnn, jnat, Int.toNat_natCast, bJ_0, bJ_1, bft, gd_T, nar_J, nar_0, nar_1, if_true, if_false, Option.bind_some, gd_t, decide_eq_false_iff_not, decide_eq_true_eq, h.cD hc, (h.ca c hc).day, h.today, ecast, bJ_t]); rfl) | rfl)); (focus (first | exact True.intro | omega))) | ((with_reducible apply wp_ifJF); (focus (first | ((simp (disch := omega) only [J_lit, J_add, J_sub, J_mul, J_neg, J_n, jle, jlt, jeq, jnn, jnat, Int.toNat_natCast, bJ_0, bJ_1, bft, gd_T, nar_J, nar_0, nar_1, if_true, if_false, Option.bind_some, gd_t, decide_eq_false_iff_not, decide_eq_true_eq, h.cD hc, (h.ca c hc).day, h.today, ecast, bJ_t]); rfl) | rfl)); (focus (first | exact not_false | omega))) | ((with_reducible apply wp_ifJ); (focus (first | ((simp (disch := omega) only [J_lit, J_add, J_sub, J_mul, J_neg, J_n, jle, jlt, jeq, jnn, jnat, Int.toNat_natCast, bJ_0, bJ_1, bft, gd_T, nar_J, nar_0, nar_1, if_true, if_false, Option.bind_some, gd_t, decide_eq_false_iff_not, decide_eq_true_eq, h.cD hc, (h.ca c hc).day, h.today, ecast, bJ_t]); rfl) | rfl)); all_goals intro _) | (with_reducible apply wp_some) | ((with_reducible apply wp_eli); try dsimp only) | ((with_reducible apply wp_elr); try dsimp only) | ((with_reducible apply wp_bindE); (focus ((simp (disch := omega) only [J_lit, J_add, J_sub, J_mul, J_neg, J_n, jle, jlt, jeq, jnn, jnat, Int.toNat_natCast, bJ_0, bJ_1, bft, gd_T, nar_J, nar_0, nar_1, if_true, if_false, Option.bind_some, gd_t, h.cD hc, (h.ca c hc).day, h.today, ecast, bJ_t]); rfl)); try dsimp only) | (with_reducible apply wp_bind))); all_goals (try (simp (disch := omega) only [J_lit, J_add, J_sub, J_mul, J_neg, J_n, jle, jlt, jeq, jnn, jnat, Int.toNat_natCast, bJ_0, bJ_1, bft, gd_T, nar_J, nar_0, nar_1, if_true, if_false, Option.bind_some, gd_t, h.cD hc, (h.ca c hc).day, h.today, ecast, bJ_t])))
    rw [show T.mayHave s c r = false by unfold PTb.mayHave; simp [e1]]; rfl
  | false =>
    rw [e1] at ecast
    obtain ⟨A1, j1, x1, w1, q1⟩ := h_judge (n := n) (AR := AR) h hT hl hw hn h324
    have h1 := h.eqx_ x1 (by decide)
    obtain ⟨A2, j2, x2, w2⟩ := h_keepW (n := n) (AR := AR) h1 hT hl hn (by omega : s < 20)
    have h2 := h1.eqx_ x2 (by decide)
    have x12 : eqx scH AI A2 := eqx_trans (eqx_mono x1 (by decide)) (eqx_mono x2 (by decide))
    have q2 : ∃ q, swA 324 q A2 := by obtain ⟨q, hq⟩ := q1; exact ⟨q, fun i hi => by rw [x2 324 (by decide)]; exact hq i hi⟩
    have was := h2.cast c r hc (by omega)
    have bef := h2.ahead c r hc (by omega)
    have j3 := h_give (FR := FR) (AI := A2) (AR := AR) (BR := BR) (AN := AN) (v := (s : Int)) (by omega : c < 66) (by omega : r < 8)
    have x3 : eqx [419, 420] A2 (sA (sA A2 420 c (uA (A2 420 c) r (A2 419 c r))) 419 c (uA (A2 419 c) r (J s))) := eqx_trans (eqx_sA (by decide)) (eqx_sA (by decide))
    have h3 : HTb (T.give c r s) Z FI FR GR (sA (sA A2 420 c (uA (A2 420 c) r (A2 419 c r))) 419 c (uA (A2 419 c) r (J s))) BR AN := by
      refine h2.casts x3 (by decide) ?_ ?_
      · have := hCs_up (c := c) (r := r) (v := (s : Int)) (hCs_ne (s2 := 420) (c := c) (g := uA (A2 420 c) r (A2 419 c r)) h2.cast (by decide))
        rw [sA_site _ _ _ (by decide)] at this
        exact this
      · rw [was]
        exact hCs_ne (hCs_up h2.ahead) (by decide)
    generalize sA (sA A2 420 c (uA (A2 420 c) r (A2 419 c r))) 419 c (uA (A2 419 c) r (J s)) = A3 at j3 x3 h3
    have hTg : PTbOk (T.give c r s) := give_ok hT (by omega) hc (by omega)
    have x13 : eqx scH AI A3 := eqx_trans x12 (eqx_mono x3 (by decide))
    have q3 : ∃ q, swA 324 q A3 := by obtain ⟨q, hq⟩ := q2; exact ⟨q, fun i hi => by rw [x3 324 (by decide)]; exact hq i hi⟩
    obtain ⟨A4, j4, x4, w4, q4⟩ := h_judge (n := n) (AR := AR) h3 hTg hl (hw.eqx_ x13 (by decide)) hn q3
    have h4 := h3.eqx_ x4 (by decide)
    have x14 : eqx scH AI A4 := eqx_trans x13 (eqx_mono x4 (by decide))
    have j5 := h_isNew (n := n) (AR := AR) h4 hTg hl hn (by omega : s < 20)
    rw [new_ok hT hc hr w4 w1 (fun c r hc hr => by rw [x4 428 (by decide), x3 428 (by decide)]; exact w2 c r hc hr)] at j5
    have hcl : HTb T Z FI FR GR (sA (sA A4 419 c (uA (A4 419 c) r (J (T.cast c r)))) 420 c (uA (A4 420 c) r (J (T.ahead c r)))) BR AN := by
      have := h4.casts (A := sA (sA A4 419 c (uA (A4 419 c) r (J (T.cast c r)))) 420 c (uA (A4 420 c) r (J (T.ahead c r)))) (L := [419, 420]) (ct := T.cast) (ah := T.ahead) (eqx_trans (eqx_sA (by decide)) (eqx_sA (by decide))) (by decide) ?_ ?_
      · exact this
      · have e : upT (upT T.cast c r s) c r (T.cast c r) = T.cast := by
          funext a b; simp only [upT]; split
          · rename_i q; rw [q.1, q.2]
          · rfl
        have h0 : hCs T.all 419 (upT T.cast c r s) A4 := h4.cast
        have := hCs_up (c := c) (r := r) (v := T.cast c r) h0
        rw [e] at this
        exact hCs_ne this (by decide)
      · have e : upT (upT T.ahead c r (T.cast c r)) c r (T.ahead c r) = T.ahead := by
          funext a b; simp only [upT]; split
          · rename_i q; rw [q.1, q.2]
          · rfl
        have h0 : hCs T.all 420 (upT T.ahead c r (T.cast c r)) A4 := h4.ahead
        have := hCs_up (c := c) (r := r) (v := T.ahead c r) (hCs_ne (s2 := 419) (c := c) (g := uA (A4 419 c) r (J (T.cast c r))) h0 (by decide))
        rw [e, sA_site _ _ _ (by decide)] at this
        exact this
    refine ⟨_, wp_eq ?_, ?_, hcl, ?_⟩
    · unfold mX1_mayHave mX1_mayHave_j84
      ((repeat' (first | ((with_reducible apply wp_let); try dsimp only) | ((with_reducible apply wp_gdJ); (focus (first | ((simp (disch := omega) only [J_lit, J_add, J_sub, J_mul, J_neg, J_n, jle, jlt, jeq, jnn, jnat, Int.toNat_natCast, bJ_0, bJ_1, bft, gd_T, nar_J, nar_0, nar_1, if_true, if_false, Option.bind_some, gd_t, h.cD hc, (h.ca c hc).day, h.today, ecast, bJ_f, j1, j2, (h.ca c hc).num, was, bef, j3, j4, j5]); rfl) | rfl)); (focus (first | exact True.intro | (first | exact vp_J (by omega) (by omega) (by omega) | omega)))) | ((with_reducible apply wp_ifJT); (focus (first | ((simp (disch := omega) only [J_lit, J_add, J_sub, J_mul, J_neg, J_n, jle, jlt, jeq, jnn, jnat, Int.toNat_natCast, bJ_0, bJ_1, bft, gd_T, nar_J, nar_0, nar_1, if_true, if_false, Option.bind_some, gd_t, decide_eq_false_iff_not, decide_eq_true_eq, h.cD hc, (h.ca c hc).day, h.today, ecast, bJ_f, j1, j2, (h.ca c hc).num, was, bef, j3, j4, j5]); rfl) | rfl)); (focus (first | exact True.intro | omega))) | ((with_reducible apply wp_ifJF); (focus (first | ((simp (disch := omega) only [J_lit, J_add, J_sub, J_mul, J_neg, J_n, jle, jlt, jeq, jnn, jnat, Int.toNat_natCast, bJ_0, bJ_1, bft, gd_T, nar_J, nar_0, nar_1, if_true, if_false, Option.bind_some, gd_t, decide_eq_false_iff_not, decide_eq_true_eq, h.cD hc, (h.ca c hc).day, h.today, ecast, bJ_f, j1, j2, (h.ca c hc).num, was, bef, j3, j4, j5]); rfl) | rfl)); (focus (first | exact not_false | omega))) | ((with_reducible apply wp_ifJ); (focus (first | ((simp (disch := omega) only [J_lit, J_add, J_sub, J_mul, J_neg, J_n, jle, jlt, jeq, jnn, jnat, Int.toNat_natCast, bJ_0, bJ_1, bft, gd_T, nar_J, nar_0, nar_1, if_true, if_false, Option.bind_some, gd_t, decide_eq_false_iff_not, decide_eq_true_eq, h.cD hc, (h.ca c hc).day, h.today, ecast, bJ_f, j1, j2, (h.ca c hc).num, was, bef, j3, j4, j5]); rfl) | rfl)); all_goals intro _) | (with_reducible apply wp_some) | ((with_reducible apply wp_eli); try dsimp only) | ((with_reducible apply wp_elr); try dsimp only) | ((with_reducible apply wp_bindE); (focus ((simp (disch := omega) only [J_lit, J_add, J_sub, J_mul, J_neg, J_n, jle, jlt, jeq, jnn, jnat, Int.toNat_natCast, bJ_0, bJ_1, bft, gd_T, nar_J, nar_0, nar_1, if_true, if_false, Option.bind_some, gd_t, h.cD hc, (h.ca c hc).day, h.today, ecast, bJ_f, j1, j2, (h.ca c hc).num, was, bef, j3, j4, j5]); rfl)); try dsimp only) | (with_reducible apply wp_bind))); all_goals (try (simp (disch := omega) only [J_lit, J_add, J_sub, J_mul, J_neg, J_n, jle, jlt, jeq, jnn, jnat, Int.toNat_natCast, bJ_0, bJ_1, bft, gd_T, nar_J, nar_0, nar_1, if_true, if_false, Option.bind_some, gd_t, h.cD hc, (h.ca c hc).day, h.today, ecast, bJ_f, j1, j2, (h.ca c hc).num, was, bef, j3, j4, j5])))
      · rename_i z
        refine wp_gd (.inr True.intro) (wp_some ?_)
        rw [sA_site _ _ _ (by decide), show T.mayHave s c r = true by unfold PTb.mayHave; simp [e0, e1, z]]; rfl
      · rename_i z
        refine wp_gd (.inl True.intro) (wp_some ?_)
        rw [sA_site _ _ _ (by decide), show T.mayHave s c r = false by unfold PTb.mayHave; rw [Bool.not_eq_false] at z; rw [z]; simp]; rfl
    · exact eqx_trans x14 (eqx_trans (eqx_sA (by decide)) (eqx_sA (by decide)))
    · obtain ⟨q, hq⟩ := q4
      exact ⟨q, fun i hi => by rw [sA_site _ _ _ (by decide), sA_site _ _ _ (by decide)]; exact hq i hi⟩
end
end
