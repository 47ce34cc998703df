noncomputable section
set_option linter.unusedVariables false
set_option linter.unusedSimpArgs false
/-! PLAIN 20: the twin's notes of what is wrong -/
/-- how many there are, is written -/
def f88 (FI : OhI) (v : Int32) : OhI := sA FI 1 0 (uA (FI 1 0) 88 v)
theorem f88_88 (FI : OhI) (v w : Int32) : f88 (f88 FI v) w = f88 FI w := by
  unfold f88
  rw [sA_sA, sA_same]
  congr 1
  funext j
  by_cases e : j = 88 <;> simp [uA_at, e]
theorem f88_at (FI : OhI) (v : Int32) : f88 FI v 1 0 88 = v := by unfold f88; rw [sA_same, uA_same]
theorem f88_ne (FI : OhI) (v : Int32) {k : Nat} (h : k ≠ 88) : f88 FI v 1 0 k = FI 1 0 k := by unfold f88; rw [sA_same, uA_ne _ _ h]
theorem f88_self (FI : OhI) {v : Int32} (h : FI 1 0 88 = v) : f88 FI v = FI := by
  unfold f88
  funext s i
  by_cases e : s = 1 ∧ i = 0
  · rw [e.1, e.2, sA_same]
    funext j
    by_cases q : j = 88
    · subst q; rw [uA_same, h]
    · rw [uA_ne _ _ q]
  · rw [sA_ne _ _ e]
theorem MTb.f88_ {T : PTb} {FI AI : OhI} (h : MTb T FI AI) (v : Int32) : MTb T (f88 FI v) AI :=
  h.congr (fun k hk => f88_ne _ _ (by intro q; subst q; revert hk; decide)) (f88_ne _ _ (by decide)) (f88_ne _ _ (by decide)) (fun _ _ => rfl) (fun _ _ => rfl) (fun _ _ => rfl)
def ntA (L : List PNt) (A : OhI) : Prop := ∀ (i : Nat) (x : PNt), L[i]? = some x → A 184 0 i = J x.1 ∧ A 185 0 i = J x.2.1 ∧ A 186 0 i = J x.2.2
section
variable {T : PTb} {FI AI : OhI} {n : Nat} {FR : OhQ} {AN : OhN} {bad : Nat → Bool}
theorem q4_note {L : List PNt} (hL : L.length < 5200) (hf : FI 1 0 88 = J (L.length : Int)) (hA : ntA L AI) {w c : Nat} {r : Int} :
    ∃ A, mX4_note FI FR AI AN (J w) (J c) (J r) = some (f88 FI (J (L.length + 1 : Nat)), A) ∧ eqx [184, 185, 186] AI A ∧ ntA (L ++ [(w, c, r)]) A := by
  refine ⟨sA (sA (sA AI 184 0 (uA (AI 184 0) L.length (J w))) 185 0 (uA (AI 185 0) L.length (J c))) 186 0 (uA (AI 186 0) L.length (J r)), wp_eq ?_, ?_⟩
  · unfold mX4_note
    ((repeat' (first | ((with_reducible apply wp_let); try dsimp only) | ((with_reducible apply wp_gdJ); (focus (first | ((simp (disch := omega) only [J_lit, J_add, J_sub, J_mul, J_neg, J_n, jle, jlt, jeq, jnn, jnat, Int.toNat_natCast, bJ_0, bJ_1, bft, gd_T, nar_J, nar_0, nar_1, if_true, if_false, Option.bind_some, gd_t, hf]); rfl) | rfl)); (focus (first | exact True.intro | (first | exact vp_J (by omega) (by omega) (by omega) | omega)))) | ((with_reducible apply wp_ifJT); (focus (first | ((simp (disch := omega) only [J_lit, J_add, J_sub, J_mul, J_neg, J_n, jle, jlt, jeq, jnn, jnat, Int.toNat_natCast, bJ_0, bJ_1, bft, gd_T, nar_J, nar_0, nar_1, if_true, if_false, Option.bind_some, gd_t, hf]); rfl) | rfl)); (focus (first | exact True.intro | omega))) | ((with_reducible apply wp_ifJF); (focus (first | ((simp (disch := omega) only [J_lit, J_add, J_sub, J_mul, J_neg, J_n, jle, jlt, jeq, jnn, jnat, Int.toNat_natCast, bJ_0, bJ_1, bft, gd_T, nar_J, nar_0, nar_1, if_true, if_false, Option.bind_some, gd_t, hf]); rfl) | rfl)); (focus (first | exact not_false | omega))) | ((with_reducible apply wp_ifJ); (focus (first | ((simp (disch := omega) only [J_lit, J_add, J_sub, J_mul, J_neg, J_n, jle, jlt, jeq, jnn, jnat, Int.toNat_natCast, bJ_0, bJ_1, bft, gd_T, nar_J, nar_0, nar_1, if_true, if_false, Option.bind_some, gd_t, hf]); rfl) | rfl)); all_goals intro _) | (with_reducible apply wp_some) | ((with_reducible apply wp_eli); try dsimp only) | ((with_reducible apply wp_elr); try dsimp only) | ((with_reducible apply wp_bindE); (focus ((simp (disch := omega) only [J_lit, J_add, J_sub, J_mul, J_neg, J_n, jle, jlt, jeq, jnn, jnat, Int.toNat_natCast, bJ_0, bJ_1, bft, gd_T, nar_J, nar_0, nar_1, if_true, if_false, Option.bind_some, gd_t, hf]); rfl)); try dsimp only) | (with_reducible apply wp_bind))); all_goals (try (simp (disch := omega) only [J_lit, J_add, J_sub, J_mul, J_neg, J_n, jle, jlt, jeq, jnn, jnat, Int.toNat_natCast, bJ_0, bJ_1, bft, gd_T, nar_J, nar_0, nar_1, if_true, if_false, Option.bind_some, gd_t, hf])))
    rfl
  refine ⟨eqx_trans (eqx_sA (by decide)) (eqx_trans (eqx_sA (by decide)) (eqx_sA (by decide))), ?_⟩
  intro i x hx
  by_cases q : i < L.length
  · rw [List.getElem?_append_left q] at hx
    have := hA i x hx
    simp [sA_at, uA_at, Nat.ne_of_lt q, this]
  · have h1 : i = L.length := by
      have := (List.getElem?_eq_some_iff.mp hx).1
      simp at this; omega
    subst h1
    rw [List.getElem?_append_right (Nat.le_refl _)] at hx
    simp at hx
    subst hx
    simp [sA_at, uA_at]
theorem q4_judge1 (h : MTb T FI AI) (hT : PTbOk T) (hn : 10000 ≤ n) {k c : Nat} (hc : c < T.all) {L : List PNt} (hL : L.length + 6 ≤ 5200) (hf : FI 1 0 88 = J (L.length : Int)) (hA : ntA L AI) (hbad : ∀ c, c < T.all → AI 183 0 c = bJ (bad c)) :
    ∃ A, lpF (fun v : Int32 × OhI × OhI => mX4_judge_b28 n v.2.1 FR v.2.2 AN (J k) (J c) v.1) n (J 1, FI, AI) = some (f88 FI (J ((L ++ T.nCall bad c 6).length : Nat)), A) ∧ eqx [184, 185, 186] AI A ∧ ntA (L ++ T.nCall bad c 6) A := by
  have h66 := hT.all
  have key : wp (lpF (fun v : Int32 × OhI × OhI => mX4_judge_b28 n v.2.1 FR v.2.2 AN (J k) (J c) v.1) n (J 1, FI, AI)) (fun r => ∃ A, r = (f88 FI (J ((L ++ T.nCall bad c 6).length : Nat)), A) ∧ eqx [184, 185, 186] AI A ∧ ntA (L ++ T.nCall bad c 6) A) := by
    refine wp_for 6 (fun m a => ∃ A, a = (J ((m : Int) + 1), f88 FI (J ((L ++ T.nCall bad c m).length : Nat)), A) ∧ eqx [184, 185, 186] AI A ∧ ntA (L ++ T.nCall bad c m) A) ?_ (k0 := 0) ⟨AI, by simp only [PTb.nCall, List.append_nil]; rw [f88_self FI hf]; rfl, eqx_refl, by simp only [PTb.nCall, List.append_nil]; exact hA⟩ (by omega) (by omega)
    rintro m a hm ⟨A, rfl, x, ha⟩
    have hlen := nCall_len T bad c m
    dsimp only
    unfold mX4_judge_b28
    by_cases e : m = 6
    · subst e
      ((repeat' (first | ((with_reducible apply wp_let); try dsimp only) | ((with_reducible apply wp_gdJ); (focus (first | ((simp (disch := omega) only [J_lit, J_add, J_sub, J_mul, J_neg, J_n, jle, jlt, jeq, jnn, jnat, Int.toNat_natCast, bJ_0, bJ_1, bft, gd_T, nar_J, nar_0, nar_1, if_true, if_false, Option.bind_some, gd_t]); rfl) | rfl)); (focus (first | exact True.intro | (first | exact vp_J (by omega) (by omega) (by omega) | omega)))) | ((with_reducible apply wp_ifJT); (focus (first | ((simp (disch := omega) only [J_lit, J_add, J_sub, J_mul, J_neg, J_n, jle, jlt, jeq, jnn, jnat, Int.toNat_natCast, bJ_0, bJ_1, bft, gd_T, nar_J, nar_0, nar_1, if_true, if_false, Option.bind_some, gd_t]); rfl) | rfl)); (focus (first | exact True.intro | omega))) | ((with_reducible apply wp_ifJF); (focus (first | ((simp (disch := omega) only [J_lit, J_add, J_sub, J_mul, J_neg, J_n, jle, jlt, jeq, jnn, jnat, Int.toNat_natCast, bJ_0, bJ_1, bft, gd_T, nar_J, nar_0, nar_1, if_true, if_false, Option.bind_some, gd_t]); rfl) | rfl)); (focus (first | exact not_false | omega))) | ((with_reducible apply wp_ifJ); (focus (first | ((simp (disch := omega) only [J_lit, J_add, J_sub, J_mul, J_neg, J_n, jle, jlt, jeq, jnn, jnat, Int.toNat_natCast, bJ_0, bJ_1, bft, gd_T, nar_J, nar_0, nar_1, if_true, if_false, Option.bind_some, gd_t]); rfl) | rfl)); all_goals intro _) | (with_reducible apply wp_some) | ((with_reducible apply wp_eli); try dsimp only) | ((with_reducible apply wp_elr); try dsimp only) | ((with_reducible apply wp_bindE); (focus ((simp (disch := omega) only [J_lit, J_add, J_sub, J_mul, J_neg, J_n, jle, jlt, jeq, jnn, jnat, Int.toNat_natCast, bJ_0, bJ_1, bft, gd_T, nar_J, nar_0, nar_1, if_true, if_false, Option.bind_some, gd_t]); rfl)); try dsimp only) | (with_reducible apply wp_bind))); all_goals (try (simp (disch := omega) only [J_lit, J_add, J_sub, J_mul, J_neg, J_n, jle, jlt, jeq, jnn, jnat, Int.toNat_natCast, bJ_0, bJ_1, bft, gd_T, nar_J, nar_0, nar_1, if_true, if_false, Option.bind_some, gd_t])))
      exact ⟨A, rfl, x, ha⟩
    · have hA2 := (h.eqx_ x (by decide)).f88_ (J ((L ++ T.nCall bad c m).length : Nat))
      have e1 := q4_isCallWrong (n := n) (FR := FR) (AN := AN) hA2 hT hn (bad := bad) (fun d hd => by rw [x 183 (by decide)]; exact hbad d hd) (k := m + 1) (c := c) (by omega) (by omega) hc
      rw [show ((m + 1 : Nat) : Int) = (m : Int) + 1 by omega] at e1
      obtain ⟨A3, e3, x3, h3⟩ := q4_note (FR := FR) (AN := AN) (L := L ++ T.nCall bad c m) (w := m + 1) (c := c) (r := -1) (by rw [List.length_append]; omega) (f88_at FI _) ha
      rw [show ((m + 1 : Nat) : Int) = (m : Int) + 1 by omega, f88_88] at e3
      ((repeat' (first | ((with_reducible apply wp_let); try dsimp only) | ((with_reducible apply wp_gdJ); (focus (first | ((simp (disch := omega) only [J_lit, J_add, J_sub, J_mul, J_neg, J_n, jle, jlt, jeq, jnn, jnat, Int.toNat_natCast, bJ_0, bJ_1, bft, gd_T, nar_J, nar_0, nar_1, if_true, if_false, Option.bind_some, gd_t, e1, e3]); rfl) | rfl)); (focus (first | exact True.intro | (first | exact vp_J (by omega) (by omega) (by omega) | omega)))) | ((with_reducible apply wp_ifJT); (focus (first | ((simp (disch := omega) only [J_lit, J_add, J_sub, J_mul, J_neg, J_n, jle, jlt, jeq, jnn, jnat, Int.toNat_natCast, bJ_0, bJ_1, bft, gd_T, nar_J, nar_0, nar_1, if_true, if_false, Option.bind_some, gd_t, e1, e3]); rfl) | rfl)); (focus (first | exact True.intro | omega))) | ((with_reducible apply wp_ifJF); (focus (first | ((simp (disch := omega) only [J_lit, J_add, J_sub, J_mul, J_neg, J_n, jle, jlt, jeq, jnn, jnat, Int.toNat_natCast, bJ_0, bJ_1, bft, gd_T, nar_J, nar_0, nar_1, if_true, if_false, Option.bind_some, gd_t, e1, e3]); rfl) | rfl)); (focus (first | exact not_false | omega))) | ((with_reducible apply wp_ifJ); (focus (first | ((simp (disch := omega) only [J_lit, J_add, J_sub, J_mul, J_neg, J_n, jle, jlt, jeq, jnn, jnat, Int.toNat_natCast, bJ_0, bJ_1, bft, gd_T, nar_J, nar_0, nar_1, if_true, if_false, Option.bind_some, gd_t, e1, e3]); rfl) | rfl)); all_goals intro _) | (with_reducible apply wp_some) | ((with_reducible apply wp_eli); try dsimp only) | ((with_reducible apply wp_elr); try dsimp only) | ((with_reducible apply wp_bindE); (focus ((simp (disch := omega) only [J_lit, J_add, J_sub, J_mul, J_neg, J_n, jle, jlt, jeq, jnn, jnat, Int.toNat_natCast, bJ_0, bJ_1, bft, gd_T, nar_J, nar_0, nar_1, if_true, if_false, Option.bind_some, gd_t, e1, e3]); rfl)); try dsimp only) | (with_reducible apply wp_bind))); all_goals (try (simp (disch := omega) only [J_lit, J_add, J_sub, J_mul, J_neg, J_n, jle, jlt, jeq, jnn, jnat, Int.toNat_natCast, bJ_0, bJ_1, bft, gd_T, nar_J, nar_0, nar_1, if_true, if_false, Option.bind_some, gd_t, e1, e3])))
      · rename_i hq
        have en : T.nCall bad c (m + 1) = T.nCall bad c m := by simp only [PTb.nCall]; rw [if_neg (by simp [hq])]; simp
        rw [en]
        exact ⟨by omega, A, rfl, x, ha⟩
      · rename_i hq
        have en : T.nCall bad c (m + 1) = T.nCall bad c m ++ [(m + 1, c, -1)] := by simp only [PTb.nCall]; rw [if_pos (by simpa using hq)]
        rw [en, ← List.append_assoc]
        refine ⟨by omega, A3, ?_, eqx_trans x x3, h3⟩
        rw [List.length_append (bs := [(m + 1, c, (-1 : Int))])]
        rfl
  obtain ⟨r, e, A, rfl, x, ha⟩ := key
  exact ⟨A, e, x, ha⟩
theorem q4_judge2 (h : MTb T FI AI) (hT : PTbOk T) (hn : 10000 ≤ n) {k c w : Nat} (hw : 7 ≤ w) (hw2 : w ≤ 15) (hc : c < T.all) {L : List PNt} (hL : L.length + 8 ≤ 5200) (hf : FI 1 0 88 = J (L.length : Int)) (hA : ntA L AI) :
    ∃ A, lpF (fun v : Int32 × OhI × OhI => mX4_judge_b68 n v.2.1 FR v.2.2 AN (J k) (J c) (J w) v.1) n (J 0, FI, AI) = some (f88 FI (J ((L ++ T.nRole w c (T.nr c)).length : Nat)), A) ∧ eqx [184, 185, 186] AI A ∧ ntA (L ++ T.nRole w c (T.nr c)) A := by
  have h66 := hT.all
  have hb := hT.b hc
  have hS := hT.S.nS
  have key : wp (lpF (fun v : Int32 × OhI × OhI => mX4_judge_b68 n v.2.1 FR v.2.2 AN (J k) (J c) (J w) v.1) n (J 0, FI, AI)) (fun r => ∃ A, r = (f88 FI (J ((L ++ T.nRole w c (T.nr c)).length : Nat)), A) ∧ eqx [184, 185, 186] AI A ∧ ntA (L ++ T.nRole w c (T.nr c)) A) := by
    refine wp_for (T.nr c) (fun m a => ∃ A, a = (J (m : Int), f88 FI (J ((L ++ T.nRole w c m).length : Nat)), A) ∧ eqx [184, 185, 186] AI A ∧ ntA (L ++ T.nRole w c m) A) ?_ (k0 := 0) ⟨AI, by simp only [PTb.nRole, List.append_nil]; rw [f88_self FI hf]; rfl, eqx_refl, by simp only [PTb.nRole, List.append_nil]; exact hA⟩ (by omega) (by omega)
    rintro m a hm ⟨A, rfl, x, ha⟩
    have hlen := nRole_len T w c m
    have hA2 := (h.eqx_ x (by decide)).f88_ (J ((L ++ T.nRole w c m).length : Nat))
    have enr := hA2.nrT hT
    dsimp only
    unfold mX4_judge_b68 mX4_judge_j130
    by_cases e : m = T.nr c
    · subst e
      ((repeat' (first | ((with_reducible apply wp_let); try dsimp only) | ((with_reducible apply wp_gdJ); (focus (first | ((simp (disch := omega) only [J_lit, J_add, J_sub, J_mul, J_neg, J_n, jle, jlt, jeq, jnn, jnat, Int.toNat_natCast, bJ_0, bJ_1, bft, gd_T, nar_J, nar_0, nar_1, if_true, if_false, Option.bind_some, gd_t, hA2.co, enr]); rfl) | rfl)); (focus (first | exact True.intro | (first | exact vp_J (by omega) (by omega) (by omega) | omega)))) | ((with_reducible apply wp_ifJT); (focus (first | ((simp (disch := omega) only [J_lit, J_add, J_sub, J_mul, J_neg, J_n, jle, jlt, jeq, jnn, jnat, Int.toNat_natCast, bJ_0, bJ_1, bft, gd_T, nar_J, nar_0, nar_1, if_true, if_false, Option.bind_some, gd_t, hA2.co, enr]); rfl) | rfl)); (focus (first | exact True.intro | omega))) | ((with_reducible apply wp_ifJF); (focus (first | ((simp (disch := omega) only [J_lit, J_add, J_sub, J_mul, J_neg, J_n, jle, jlt, jeq, jnn, jnat, Int.toNat_natCast, bJ_0, bJ_1, bft, gd_T, nar_J, nar_0, nar_1, if_true, if_false, Option.bind_some, gd_t, hA2.co, enr]); rfl) | rfl)); (focus (first | exact not_false | omega))) | ((with_reducible apply wp_ifJ); (focus (first | ((simp (disch := omega) only [J_lit, J_add, J_sub, J_mul, J_neg, J_n, jle, jlt, jeq, jnn, jnat, Int.toNat_natCast, bJ_0, bJ_1, bft, gd_T, nar_J, nar_0, nar_1, if_true, if_false, Option.bind_some, gd_t, hA2.co, enr]); rfl) | rfl)); all_goals intro _) | (with_reducible apply wp_some) | ((with_reducible apply wp_eli); try dsimp only) | ((with_reducible apply wp_elr); try dsimp only) | ((with_reducible apply wp_bindE); (focus ((simp (disch := omega) only [J_lit, J_add, J_sub, J_mul, J_neg, J_n, jle, jlt, jeq, jnn, jnat, Int.toNat_natCast, bJ_0, bJ_1, bft, gd_T, nar_J, nar_0, nar_1, if_true, if_false, Option.bind_some, gd_t, hA2.co, enr]); rfl)); try dsimp only) | (with_reducible apply wp_bind))); all_goals (try (simp (disch := omega) only [J_lit, J_add, J_sub, J_mul, J_neg, J_n, jle, jlt, jeq, jnn, jnat, Int.toNat_natCast, bJ_0, bJ_1, bft, gd_T, nar_J, nar_0, nar_1, if_true, if_false, Option.bind_some, gd_t, hA2.co, enr])))
      exact ⟨A, rfl, x, ha⟩
    · have hcb := hT.cast c m hc (by omega)
      obtain ⟨A3, e3, x3, h3⟩ := q4_note (FR := FR) (AN := AN) (L := L ++ T.nRole w c m) (w := w) (c := c) (r := (m : Int)) (by rw [List.length_append]; omega) (f88_at FI _) ha
      rw [f88_88] at e3
      have no : T.isW w c m = false → T.nRole w c (m + 1) = T.nRole w c m := fun hq => by simp only [PTb.nRole]; rw [if_neg (by simp [hq])]; simp
      have yes : T.isW w c m = true → T.nRole w c (m + 1) = T.nRole w c m ++ [(w, c, (m : Int))] := fun hq => by simp only [PTb.nRole]; rw [if_pos hq]
      have noG : T.isW w c m = false → m < T.nr c ∧ ∃ A_1, (J ((m : Int) + 1), f88 FI (J ((L ++ T.nRole w c m).length : Nat)), A) = (J ((m + 1 : Nat) : Int), f88 FI (J ((L ++ T.nRole w c (m + 1)).length : Nat)), A_1) ∧ eqx [184, 185, 186] AI A_1 ∧ ntA (L ++ T.nRole w c (m + 1)) A_1 := fun hq => by
        rw [no hq]; exact ⟨by omega, A, rfl, x, ha⟩
      have yesG : T.isW w c m = true → m < T.nr c ∧ ∃ A_1, (J ((m : Int) + 1), f88 FI (J (((L ++ T.nRole w c m).length + 1 : Nat) : Int)), A3) = (J ((m + 1 : Nat) : Int), f88 FI (J ((L ++ T.nRole w c (m + 1)).length : Nat)), A_1) ∧ eqx [184, 185, 186] AI A_1 ∧ ntA (L ++ T.nRole w c (m + 1)) A_1 := fun hq => by
        rw [yes hq, ← List.append_assoc]
        refine ⟨by omega, A3, ?_, eqx_trans x x3, h3⟩
        rw [List.length_append (bs := [(w, c, (m : Int))])]
        rfl
      by_cases hc0 : 0 ≤ T.cast c m
      · obtain ⟨s, hs⟩ : ∃ s : Nat, T.cast c m = (s : Int) := ⟨(T.cast c m).toNat, by omega⟩
        have ecast := hA2.cast c m hc (by omega)
        rw [hs] at ecast
        by_cases hw7 : w = 7
        · ((repeat' (first | ((with_reducible apply wp_let); try dsimp only) | ((with_reducible apply wp_gdJ); (focus (first | ((simp (disch := omega) only [J_lit, J_add, J_sub, J_mul, J_neg, J_n, jle, jlt, jeq, jnn, jnat, Int.toNat_natCast, bJ_0, bJ_1, bft, gd_T, nar_J, nar_0, nar_1, if_true, if_false, Option.bind_some, gd_t, hA2.co, enr, ecast, e3]); rfl) | rfl)); (focus (first | exact True.intro | (first | exact vp_J (by omega) (by omega) (by omega) | omega)))) | ((with_reducible apply wp_ifJT); (focus (first | ((simp (disch := omega) only [J_lit, J_add, J_sub, J_mul, J_neg, J_n, jle, jlt, jeq, jnn, jnat, Int.toNat_natCast, bJ_0, bJ_1, bft, gd_T, nar_J, nar_0, nar_1, if_true, if_false, Option.bind_some, gd_t, hA2.co, enr, ecast, e3]); rfl) | rfl)); (focus (first | exact True.intro | omega))) | ((with_reducible apply wp_ifJF); (focus (first | ((simp (disch := omega) only [J_lit, J_add, J_sub, J_mul, J_neg, J_n, jle, jlt, jeq, jnn, jnat, Int.toNat_natCast, bJ_0, bJ_1, bft, gd_T, nar_J, nar_0, nar_1, if_true, if_false, Option.bind_some, gd_t, hA2.co, enr, ecast, e3]); rfl) | rfl)); (focus (first | exact not_false | omega))) | ((with_reducible apply wp_ifJ); (focus (first | ((simp (disch := omega) only [J_lit, J_add, J_sub, J_mul, J_neg, J_n, jle, jlt, jeq, jnn, jnat, Int.toNat_natCast, bJ_0, bJ_1, bft, gd_T, nar_J, nar_0, nar_1, if_true, if_false, Option.bind_some, gd_t, hA2.co, enr, ecast, e3]); rfl) | rfl)); all_goals intro _) | (with_reducible apply wp_some) | ((with_reducible apply wp_eli); try dsimp only) | ((with_reducible apply wp_elr); try dsimp only) | ((with_reducible apply wp_bindE); (focus ((simp (disch := omega) only [J_lit, J_add, J_sub, J_mul, J_neg, J_n, jle, jlt, jeq, jnn, jnat, Int.toNat_natCast, bJ_0, bJ_1, bft, gd_T, nar_J, nar_0, nar_1, if_true, if_false, Option.bind_some, gd_t, hA2.co, enr, ecast, e3]); rfl)); try dsimp only) | (with_reducible apply wp_bind))); all_goals (try (simp (disch := omega) only [J_lit, J_add, J_sub, J_mul, J_neg, J_n, jle, jlt, jeq, jnn, jnat, Int.toNat_natCast, bJ_0, bJ_1, bft, gd_T, nar_J, nar_0, nar_1, if_true, if_false, Option.bind_some, gd_t, hA2.co, enr, ecast, e3])))
          exact noG (by unfold PTb.isW; rw [if_pos hw7]; simp; omega)
        · have e1 := q4_isWrong (n := n) (FR := FR) (AN := AN) hA2 hT hn (k := w) (s := s) (c := c) (r := m) (by omega) hw2 (by omega) hc (by omega)
          have ew : T.isW w c m = T.wr w s c m := by unfold PTb.isW; rw [if_neg hw7, hs]; simp
          ((repeat' (first | ((with_reducible apply wp_let); try dsimp only) | ((with_reducible apply wp_gdJ); (focus (first | ((simp (disch := omega) only [J_lit, J_add, J_sub, J_mul, J_neg, J_n, jle, jlt, jeq, jnn, jnat, Int.toNat_natCast, bJ_0, bJ_1, bft, gd_T, nar_J, nar_0, nar_1, if_true, if_false, Option.bind_some, gd_t, hA2.co, enr, ecast, e1, e3]); rfl) | rfl)); (focus (first | exact True.intro | (first | exact vp_J (by omega) (by omega) (by omega) | omega)))) | ((with_reducible apply wp_ifJT); (focus (first | ((simp (disch := omega) only [J_lit, J_add, J_sub, J_mul, J_neg, J_n, jle, jlt, jeq, jnn, jnat, Int.toNat_natCast, bJ_0, bJ_1, bft, gd_T, nar_J, nar_0, nar_1, if_true, if_false, Option.bind_some, gd_t, hA2.co, enr, ecast, e1, e3]); rfl) | rfl)); (focus (first | exact True.intro | omega))) | ((with_reducible apply wp_ifJF); (focus (first | ((simp (disch := omega) only [J_lit, J_add, J_sub, J_mul, J_neg, J_n, jle, jlt, jeq, jnn, jnat, Int.toNat_natCast, bJ_0, bJ_1, bft, gd_T, nar_J, nar_0, nar_1, if_true, if_false, Option.bind_some, gd_t, hA2.co, enr, ecast, e1, e3]); rfl) | rfl)); (focus (first | exact not_false | omega))) | ((with_reducible apply wp_ifJ); (focus (first | ((simp (disch := omega) only [J_lit, J_add, J_sub, J_mul, J_neg, J_n, jle, jlt, jeq, jnn, jnat, Int.toNat_natCast, bJ_0, bJ_1, bft, gd_T, nar_J, nar_0, nar_1, if_true, if_false, Option.bind_some, gd_t, hA2.co, enr, ecast, e1, e3]); rfl) | rfl)); all_goals intro _) | (with_reducible apply wp_some) | ((with_reducible apply wp_eli); try dsimp only) | ((with_reducible apply wp_elr); try dsimp only) | ((with_reducible apply wp_bindE); (focus ((simp (disch := omega) only [J_lit, J_add, J_sub, J_mul, J_neg, J_n, jle, jlt, jeq, jnn, jnat, Int.toNat_natCast, bJ_0, bJ_1, bft, gd_T, nar_J, nar_0, nar_1, if_true, if_false, Option.bind_some, gd_t, hA2.co, enr, ecast, e1, e3]); rfl)); try dsimp only) | (with_reducible apply wp_bind))); all_goals (try (simp (disch := omega) only [J_lit, J_add, J_sub, J_mul, J_neg, J_n, jle, jlt, jeq, jnn, jnat, Int.toNat_natCast, bJ_0, bJ_1, bft, gd_T, nar_J, nar_0, nar_1, if_true, if_false, Option.bind_some, gd_t, hA2.co, enr, ecast, e1, e3])))
          · rename_i hq; exact noG (by rw [ew]; exact hq)
          · rename_i hq; exact yesG (by rw [ew]; simpa using hq)
      · have ecast := hA2.cast c m hc (by omega)
        by_cases hw7 : w = 7
        · ((repeat' (first | ((with_reducible apply wp_let); try dsimp only) | ((with_reducible apply wp_gdJ); (focus (first | ((simp (disch := omega) only [J_lit, J_add, J_sub, J_mul, J_neg, J_n, jle, jlt, jeq, jnn, jnat, Int.toNat_natCast, bJ_0, bJ_1, bft, gd_T, nar_J, nar_0, nar_1, if_true, if_false, Option.bind_some, gd_t, hA2.co, enr, ecast, e3]); rfl) | rfl)); (focus (first | exact True.intro | (first | exact vp_J (by omega) (by omega) (by omega) | omega)))) | ((with_reducible apply wp_ifJT); (focus (first | ((simp (disch := omega) only [J_lit, J_add, J_sub, J_mul, J_neg, J_n, jle, jlt, jeq, jnn, jnat, Int.toNat_natCast, bJ_0, bJ_1, bft, gd_T, nar_J, nar_0, nar_1, if_true, if_false, Option.bind_some, gd_t, hA2.co, enr, ecast, e3]); rfl) | rfl)); (focus (first | exact True.intro | omega))) | ((with_reducible apply wp_ifJF); (focus (first | ((simp (disch := omega) only [J_lit, J_add, J_sub, J_mul, J_neg, J_n, jle, jlt, jeq, jnn, jnat, Int.toNat_natCast, bJ_0, bJ_1, bft, gd_T, nar_J, nar_0, nar_1, if_true, if_false, Option.bind_some, gd_t, hA2.co, enr, ecast, e3]); rfl) | rfl)); (focus (first | exact not_false | omega))) | ((with_reducible apply wp_ifJ); (focus (first | ((simp (disch := omega) only [J_lit, J_add, J_sub, J_mul, J_neg, J_n, jle, jlt, jeq, jnn, jnat, Int.toNat_natCast, bJ_0, bJ_1, bft, gd_T, nar_J, nar_0, nar_1, if_true, if_false, Option.bind_some, gd_t, hA2.co, enr, ecast, e3]); rfl) | rfl)); all_goals intro _) | (with_reducible apply wp_some) | ((with_reducible apply wp_eli); try dsimp only) | ((with_reducible apply wp_elr); try dsimp only) | ((with_reducible apply wp_bindE); (focus ((simp (disch := omega) only [J_lit, J_add, J_sub, J_mul, J_neg, J_n, jle, jlt, jeq, jnn, jnat, Int.toNat_natCast, bJ_0, bJ_1, bft, gd_T, nar_J, nar_0, nar_1, if_true, if_false, Option.bind_some, gd_t, hA2.co, enr, ecast, e3]); rfl)); try dsimp only) | (with_reducible apply wp_bind))); all_goals (try (simp (disch := omega) only [J_lit, J_add, J_sub, J_mul, J_neg, J_n, jle, jlt, jeq, jnn, jnat, Int.toNat_natCast, bJ_0, bJ_1, bft, gd_T, nar_J, nar_0, nar_1, if_true, if_false, Option.bind_some, gd_t, hA2.co, enr, ecast, e3])))
          exact yesG (by unfold PTb.isW; rw [if_pos hw7]; simp; omega)
        · ((repeat' (first | ((with_reducible apply wp_let); try dsimp only) | ((with_reducible apply wp_gdJ); (focus (first | ((simp (disch := omega) only [J_lit, J_add, J_sub, J_mul, J_neg, J_n, jle, jlt, jeq, jnn, jnat, Int.toNat_natCast, bJ_0, bJ_1, bft, gd_T, nar_J, nar_0, nar_1, if_true, if_false, Option.bind_some, gd_t, hA2.co, enr, ecast, e3]); rfl) | rfl)); (focus (first | exact True.intro | (first | exact vp_J (by omega) (by omega) (by omega) | omega)))) | ((with_reducible apply wp_ifJT); (focus (first | ((simp (disch := omega) only [J_lit, J_add, J_sub, J_mul, J_neg, J_n, jle, jlt, jeq, jnn, jnat, Int.toNat_natCast, bJ_0, bJ_1, bft, gd_T, nar_J, nar_0, nar_1, if_true, if_false, Option.bind_some, gd_t, hA2.co, enr, ecast, e3]); rfl) | rfl)); (focus (first | exact True.intro | omega))) | ((with_reducible apply wp_ifJF); (focus (first | ((simp (disch := omega) only [J_lit, J_add, J_sub, J_mul, J_neg, J_n, jle, jlt, jeq, jnn, jnat, Int.toNat_natCast, bJ_0, bJ_1, bft, gd_T, nar_J, nar_0, nar_1, if_true, if_false, Option.bind_some, gd_t, hA2.co, enr, ecast, e3]); rfl) | rfl)); (focus (first | exact not_false | omega))) | ((with_reducible apply wp_ifJ); (focus (first | ((simp (disch := omega) only [J_lit, J_add, J_sub, J_mul, J_neg, J_n, jle, jlt, jeq, jnn, jnat, Int.toNat_natCast, bJ_0, bJ_1, bft, gd_T, nar_J, nar_0, nar_1, if_true, if_false, Option.bind_some, gd_t, hA2.co, enr, ecast, e3]); rfl) | rfl)); all_goals intro _) | (with_reducible apply wp_some) | ((with_reducible apply wp_eli); try dsimp only) | ((with_reducible apply wp_elr); try dsimp only) | ((with_reducible apply wp_bindE); (focus ((simp (disch := omega) only [J_lit, J_add, J_sub, J_mul, J_neg, J_n, jle, jlt, jeq, jnn, jnat, Int.toNat_natCast, bJ_0, bJ_1, bft, gd_T, nar_J, nar_0, nar_1, if_true, if_false, Option.bind_some, gd_t, hA2.co, enr, ecast, e3]); rfl)); try dsimp only) | (with_reducible apply wp_bind))); all_goals (try (simp (disch := omega) only [J_lit, J_add, J_sub, J_mul, J_neg, J_n, jle, jlt, jeq, jnn, jnat, Int.toNat_natCast, bJ_0, bJ_1, bft, gd_T, nar_J, nar_0, nar_1, if_true, if_false, Option.bind_some, gd_t, hA2.co, enr, ecast, e3])))
          exact noG (by unfold PTb.isW; rw [if_neg hw7]; simp; omega)
  obtain ⟨r, e, A, rfl, x, ha⟩ := key
  exact ⟨A, e, x, ha⟩
end
end
