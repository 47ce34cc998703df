noncomputable section
set_option linter.unusedVariables false
set_option linter.unusedSimpArgs false
/-! PLAIN 18: the twin's sets in time -/
def gdc (cur : Nat → Bool) : Prop := ∀ x, x < 625 → cur x = true → good x = true
theorem gdc_go {cur : Nat → Bool} (h : gdc cur) : gdc (goOnS cur) := by
  intro x hx h1
  rw [goOnS_def] at h1
  exact goM_good h (by omega) (by omega) (.inr rfl) x hx h1
theorem gdc_first : gdc first625 := by
  intro x _ h
  have : x = 430 := by simpa [first625] using h
  subst this; decide +kernel
theorem gdc_only {cur : Nat → Bool} (h : gdc cur) (s : Nat) : gdc (onlyS cur s) := by
  intro x hx q
  exact h x hx (by simp only [onlyS, Bool.and_eq_true] at q; exact q.1)
theorem gdc_hrs {bz : Nat → Bool} : ∀ (k h : Nat) (z : Bool × (Nat → Bool)), gdc z.2 → gdc (hrs WM bz k h z).2
  | 0, h, z, q => q
  | k + 1, h, z, q => by
    simp only [hrs]
    refine gdc_hrs k (h + 1) _ ?_
    split
    · exact gdc_go q
    · exact q
section
variable {T : PTb} {FI AI : OhI} {n : Nat} {FR : OhQ} {AN : OhN}
/-- which hours are busy -/
def bzA (bz : Nat → Bool) (A : OhI) : Prop := ∀ h, h < 721 → A 182 0 h = bJ (bz h)
theorem q4_hrs (hn : 10000 ≤ n) {c : Nat} {x2 : Int32} (hc : c < 66) {b : Nat} (hb : b ≤ 720) (bz : Nat → Bool) : ∀ (k h : Nat) (z : Bool × (Nat → Bool)) (A : OhI), h + k = b → A 161 0 c = J b → bzA bz A → cuA z.2 A → gdc z.2 →
    ∃ A2, eqx [180, 181] A A2 ∧ cuA (hrs WM bz k h z).2 A2 ∧ goesF (fun v : Int32 × Int32 × OhI => mX4_roll_b123 n FI FR v.2.2 AN v.1 x2 (J c) v.2.1) k (J h, bJ z.1, A) (J b, bJ (hrs WM bz k h z).1, A2)
  | 0, h, z, A, e, _, _, hcu, _ => ⟨A, eqx_refl, hcu, by rw [← e, Nat.add_zero]; rfl⟩
  | k + 1, h, z, A, e, e1, hbz, hcu, hg => by
    have eh := hbz h (by omega)
    by_cases q : z.1 = true ∧ bz h = false
    · obtain ⟨A1, g1, x1, c1⟩ := q4_goOn (n := n) (FR := FR) (AN := AN) hn hg hcu
      obtain ⟨A2, x2', c2, g2⟩ := q4_hrs hn hc hb bz k (h + 1) (moreS z.2, goOnS z.2) A1 (by omega) (by rw [x1 161 (by decide)]; exact e1) (fun i hi => by rw [x1 182 (by decide)]; exact hbz i hi) c1 (gdc_go hg)
      refine ⟨A2, eqx_trans x1 x2', ?_, ?_⟩
      · simp only [hrs]; rw [if_pos q]; exact c2
      · simp only [hrs]; rw [if_pos q]
        refine ⟨_, wp_eq ?_, g2⟩
        dsimp only
        unfold mX4_roll_b123
        ((repeat' (first | ((with_reducible apply wp_let); try dsimp only) | ((with_reducible apply wp_gdJ); (focus (first | ((simp (disch := omega) only [J_lit, J_add, J_sub, J_mul, J_neg, J_n, jle, jlt, jeq, jnn, jnat, Int.toNat_natCast, bJ_0, bJ_1, bft, gd_T, nar_J, nar_0, nar_1, if_true, if_false, Option.bind_some, gd_t, e1, eh, q.1, q.2, g1, bJ_t, bJ_f]); rfl) | rfl)); (focus (first | exact True.intro | (first | exact vp_J (by omega) (by omega) (by omega) | omega)))) | ((with_reducible apply wp_ifJT); (focus (first | ((simp (disch := omega) only [J_lit, J_add, J_sub, J_mul, J_neg, J_n, jle, jlt, jeq, jnn, jnat, Int.toNat_natCast, bJ_0, bJ_1, bft, gd_T, nar_J, nar_0, nar_1, if_true, if_false, Option.bind_some, gd_t, e1, eh, q.1, q.2, g1, bJ_t, bJ_f]); rfl) | rfl)); (focus (first | exact True.intro | omega))) | ((with_reducible apply wp_ifJF); (focus (first | ((simp (disch := omega) only [J_lit, J_add, J_sub, J_mul, J_neg, J_n, jle, jlt, jeq, jnn, jnat, Int.toNat_natCast, bJ_0, bJ_1, bft, gd_T, nar_J, nar_0, nar_1, if_true, if_false, Option.bind_some, gd_t, e1, eh, q.1, q.2, g1, bJ_t, bJ_f]); rfl) | rfl)); (focus (first | exact not_false | omega))) | ((with_reducible apply wp_ifJ); (focus (first | ((simp (disch := omega) only [J_lit, J_add, J_sub, J_mul, J_neg, J_n, jle, jlt, jeq, jnn, jnat, Int.toNat_natCast, bJ_0, bJ_1, bft, gd_T, nar_J, nar_0, nar_1, if_true, if_false, Option.bind_some, gd_t, e1, eh, q.1, q.2, g1, bJ_t, bJ_f]); rfl) | rfl)); all_goals intro _) | (with_reducible apply wp_some) | ((with_reducible apply wp_eli); try dsimp only) | ((with_reducible apply wp_elr); try dsimp only) | ((with_reducible apply wp_bindE); (focus ((simp (disch := omega) only [J_lit, J_add, J_sub, J_mul, J_neg, J_n, jle, jlt, jeq, jnn, jnat, Int.toNat_natCast, bJ_0, bJ_1, bft, gd_T, nar_J, nar_0, nar_1, if_true, if_false, Option.bind_some, gd_t, e1, eh, q.1, q.2, g1, bJ_t, bJ_f]); rfl)); try dsimp only) | (with_reducible apply wp_bind))); all_goals (try (simp (disch := omega) only [J_lit, J_add, J_sub, J_mul, J_neg, J_n, jle, jlt, jeq, jnn, jnat, Int.toNat_natCast, bJ_0, bJ_1, bft, gd_T, nar_J, nar_0, nar_1, if_true, if_false, Option.bind_some, gd_t, e1, eh, q.1, q.2, g1, bJ_t, bJ_f])))
        rfl
    · obtain ⟨A2, x2', c2, g2⟩ := q4_hrs hn hc hb bz k (h + 1) z A (by omega) e1 hbz hcu hg
      refine ⟨A2, x2', ?_, ?_⟩
      · simp only [hrs]; rw [if_neg q]; exact c2
      · simp only [hrs]; rw [if_neg q]
        refine ⟨_, wp_eq ?_, g2⟩
        dsimp only
        unfold mX4_roll_b123
        ((repeat' (first | ((with_reducible apply wp_let); try dsimp only) | ((with_reducible apply wp_gdJ); (focus (first | ((simp (disch := omega) only [J_lit, J_add, J_sub, J_mul, J_neg, J_n, jle, jlt, jeq, jnn, jnat, Int.toNat_natCast, bJ_0, bJ_1, bft, gd_T, nar_J, nar_0, nar_1, if_true, if_false, Option.bind_some, gd_t, e1, eh]); rfl) | rfl)); (focus (first | exact True.intro | (first | exact vp_J (by omega) (by omega) (by omega) | omega)))) | ((with_reducible apply wp_ifJT); (focus (first | ((simp (disch := omega) only [J_lit, J_add, J_sub, J_mul, J_neg, J_n, jle, jlt, jeq, jnn, jnat, Int.toNat_natCast, bJ_0, bJ_1, bft, gd_T, nar_J, nar_0, nar_1, if_true, if_false, Option.bind_some, gd_t, e1, eh]); rfl) | rfl)); (focus (first | exact True.intro | omega))) | ((with_reducible apply wp_ifJF); (focus (first | ((simp (disch := omega) only [J_lit, J_add, J_sub, J_mul, J_neg, J_n, jle, jlt, jeq, jnn, jnat, Int.toNat_natCast, bJ_0, bJ_1, bft, gd_T, nar_J, nar_0, nar_1, if_true, if_false, Option.bind_some, gd_t, e1, eh]); rfl) | rfl)); (focus (first | exact not_false | omega))) | ((with_reducible apply wp_ifJ); (focus (first | ((simp (disch := omega) only [J_lit, J_add, J_sub, J_mul, J_neg, J_n, jle, jlt, jeq, jnn, jnat, Int.toNat_natCast, bJ_0, bJ_1, bft, gd_T, nar_J, nar_0, nar_1, if_true, if_false, Option.bind_some, gd_t, e1, eh]); rfl) | rfl)); all_goals intro _) | (with_reducible apply wp_some) | ((with_reducible apply wp_eli); try dsimp only) | ((with_reducible apply wp_elr); try dsimp only) | ((with_reducible apply wp_bindE); (focus ((simp (disch := omega) only [J_lit, J_add, J_sub, J_mul, J_neg, J_n, jle, jlt, jeq, jnn, jnat, Int.toNat_natCast, bJ_0, bJ_1, bft, gd_T, nar_J, nar_0, nar_1, if_true, if_false, Option.bind_some, gd_t, e1, eh]); rfl)); try dsimp only) | (with_reducible apply wp_bind))); all_goals (try (simp (disch := omega) only [J_lit, J_add, J_sub, J_mul, J_neg, J_n, jle, jlt, jeq, jnn, jnat, Int.toNat_natCast, bJ_0, bJ_1, bft, gd_T, nar_J, nar_0, nar_1, if_true, if_false, Option.bind_some, gd_t, e1, eh])))
        all_goals (first | rfl | (exfalso; simp_all; done))
theorem q4_busy (h : MTb T FI AI) (hT : PTbOk T) (hn : 10000 ≤ n) : ∃ A, eqx [182] AI A ∧ bzA T.bzy A ∧ ∃ A0, lpF (fun v : Int32 × OhI => mX4_roll_b2 n FI FR v.2 AN v.1) n (J 0, AI) = some A0 ∧ lpF (fun v : Int32 × OhI => mX4_roll_b24 n FI FR v.2 AN v.1) n (J 0, A0) = some A := by
  have h66 := hT.all
  have k1 : wp (lpF (fun v : Int32 × OhI => mX4_roll_b2 n FI FR v.2 AN v.1) n (J 0, AI)) (fun A => eqx [182] AI A ∧ ∀ x, x < 721 → A 182 0 x = J 0) := by
    refine wp_for 721 (fun k a => ∃ A, a = (J k, A) ∧ eqx [182] AI A ∧ ∀ x, x < k → A 182 0 x = J 0) ?_ (k0 := 0) ⟨AI, rfl, eqx_refl, fun i hi => by omega⟩ (by omega) (by omega)
    rintro k a hk ⟨A, rfl, x, ho⟩
    dsimp only
    unfold mX4_roll_b2
    by_cases e : k = 721
    · subst e
      ((repeat' (first | ((with_reducible apply wp_let); try dsimp only) | ((with_reducible apply wp_gdJ); (focus (first | ((simp (disch := omega) only [J_lit, J_add, J_sub, J_mul, J_neg, J_n, jle, jlt, jeq, jnn, jnat, Int.toNat_natCast, bJ_0, bJ_1, bft, gd_T, nar_J, nar_0, nar_1, if_true, if_false, Option.bind_some, gd_t]); rfl) | rfl)); (focus (first | exact True.intro | (first | exact vp_J (by omega) (by omega) (by omega) | omega)))) | ((with_reducible apply wp_ifJT); (focus (first | ((simp (disch := omega) only [J_lit, J_add, J_sub, J_mul, J_neg, J_n, jle, jlt, jeq, jnn, jnat, Int.toNat_natCast, bJ_0, bJ_1, bft, gd_T, nar_J, nar_0, nar_1, if_true, if_false, Option.bind_some, gd_t]); rfl) | rfl)); (focus (first | exact True.intro | omega))) | ((with_reducible apply wp_ifJF); (focus (first | ((simp (disch := omega) only [J_lit, J_add, J_sub, J_mul, J_neg, J_n, jle, jlt, jeq, jnn, jnat, Int.toNat_natCast, bJ_0, bJ_1, bft, gd_T, nar_J, nar_0, nar_1, if_true, if_false, Option.bind_some, gd_t]); rfl) | rfl)); (focus (first | exact not_false | omega))) | ((with_reducible apply wp_ifJ); (focus (first | ((simp (disch := omega) only [J_lit, J_add, J_sub, J_mul, J_neg, J_n, jle, jlt, jeq, jnn, jnat, Int.toNat_natCast, bJ_0, bJ_1, bft, gd_T, nar_J, nar_0, nar_1, if_true, if_false, Option.bind_some, gd_t]); rfl) | rfl)); all_goals intro _) | (with_reducible apply wp_some) | ((with_reducible apply wp_eli); try dsimp only) | ((with_reducible apply wp_elr); try dsimp only) | ((with_reducible apply wp_bindE); (focus ((simp (disch := omega) only [J_lit, J_add, J_sub, J_mul, J_neg, J_n, jle, jlt, jeq, jnn, jnat, Int.toNat_natCast, bJ_0, bJ_1, bft, gd_T, nar_J, nar_0, nar_1, if_true, if_false, Option.bind_some, gd_t]); rfl)); try dsimp only) | (with_reducible apply wp_bind))); all_goals (try (simp (disch := omega) only [J_lit, J_add, J_sub, J_mul, J_neg, J_n, jle, jlt, jeq, jnn, jnat, Int.toNat_natCast, bJ_0, bJ_1, bft, gd_T, nar_J, nar_0, nar_1, if_true, if_false, Option.bind_some, gd_t])))
      exact ⟨x, ho⟩
    · ((repeat' (first | ((with_reducible apply wp_let); try dsimp only) | ((with_reducible apply wp_gdJ); (focus (first | ((simp (disch := omega) only [J_lit, J_add, J_sub, J_mul, J_neg, J_n, jle, jlt, jeq, jnn, jnat, Int.toNat_natCast, bJ_0, bJ_1, bft, gd_T, nar_J, nar_0, nar_1, if_true, if_false, Option.bind_some, gd_t]); rfl) | rfl)); (focus (first | exact True.intro | (first | exact vp_J (by omega) (by omega) (by omega) | omega)))) | ((with_reducible apply wp_ifJT); (focus (first | ((simp (disch := omega) only [J_lit, J_add, J_sub, J_mul, J_neg, J_n, jle, jlt, jeq, jnn, jnat, Int.toNat_natCast, bJ_0, bJ_1, bft, gd_T, nar_J, nar_0, nar_1, if_true, if_false, Option.bind_some, gd_t]); rfl) | rfl)); (focus (first | exact True.intro | omega))) | ((with_reducible apply wp_ifJF); (focus (first | ((simp (disch := omega) only [J_lit, J_add, J_sub, J_mul, J_neg, J_n, jle, jlt, jeq, jnn, jnat, Int.toNat_natCast, bJ_0, bJ_1, bft, gd_T, nar_J, nar_0, nar_1, if_true, if_false, Option.bind_some, gd_t]); rfl) | rfl)); (focus (first | exact not_false | omega))) | ((with_reducible apply wp_ifJ); (focus (first | ((simp (disch := omega) only [J_lit, J_add, J_sub, J_mul, J_neg, J_n, jle, jlt, jeq, jnn, jnat, Int.toNat_natCast, bJ_0, bJ_1, bft, gd_T, nar_J, nar_0, nar_1, if_true, if_false, Option.bind_some, gd_t]); rfl) | rfl)); all_goals intro _) | (with_reducible apply wp_some) | ((with_reducible apply wp_eli); try dsimp only) | ((with_reducible apply wp_elr); try dsimp only) | ((with_reducible apply wp_bindE); (focus ((simp (disch := omega) only [J_lit, J_add, J_sub, J_mul, J_neg, J_n, jle, jlt, jeq, jnn, jnat, Int.toNat_natCast, bJ_0, bJ_1, bft, gd_T, nar_J, nar_0, nar_1, if_true, if_false, Option.bind_some, gd_t]); rfl)); try dsimp only) | (with_reducible apply wp_bind))); all_goals (try (simp (disch := omega) only [J_lit, J_add, J_sub, J_mul, J_neg, J_n, jle, jlt, jeq, jnn, jnat, Int.toNat_natCast, bJ_0, bJ_1, bft, gd_T, nar_J, nar_0, nar_1, if_true, if_false, Option.bind_some, gd_t])))
      refine ⟨by omega, _, rfl, eqx_trans x (eqx_sA (by decide)), fun i hi => ?_⟩
      rw [sA_same]
      by_cases q : i = k
      · subst q; rw [uA_same]
      · rw [uA_ne _ _ q]; exact ho i (by omega)
  obtain ⟨A1, e1, x1, h1⟩ := k1
  have k2 : wp (lpF (fun v : Int32 × OhI => mX4_roll_b24 n FI FR v.2 AN v.1) n (J 0, A1)) (fun A => eqx [182] AI A ∧ bzA T.bzy A) := by
    refine wp_for T.all (fun k a => ∃ A, a = (J k, A) ∧ eqx [182] AI A ∧ ∀ x : Nat, x < 721 → A 182 0 x = bJ (anyN k fun c => decide ((T.ca c).kind ≠ 0 ∧ (T.ca c).beg ≤ (x : Int) ∧ (x : Int) < (T.ca c).fin))) ?_ (k0 := 0) ⟨A1, rfl, x1, fun i hi => by rw [h1 i hi, anyN_zero]; rfl⟩ (by omega) (by omega)
    rintro k a hk ⟨A, rfl, x, ho⟩
    dsimp only
    unfold mX4_roll_b24
    by_cases e : k = T.all
    · subst e
      ((repeat' (first | ((with_reducible apply wp_let); try dsimp only) | ((with_reducible apply wp_gdJ); (focus (first | ((simp (disch := omega) only [J_lit, J_add, J_sub, J_mul, J_neg, J_n, jle, jlt, jeq, jnn, jnat, Int.toNat_natCast, bJ_0, bJ_1, bft, gd_T, nar_J, nar_0, nar_1, if_true, if_false, Option.bind_some, gd_t, h.all]); rfl) | rfl)); (focus (first | exact True.intro | (first | exact vp_J (by omega) (by omega) (by omega) | omega)))) | ((with_reducible apply wp_ifJT); (focus (first | ((simp (disch := omega) only [J_lit, J_add, J_sub, J_mul, J_neg, J_n, jle, jlt, jeq, jnn, jnat, Int.toNat_natCast, bJ_0, bJ_1, bft, gd_T, nar_J, nar_0, nar_1, if_true, if_false, Option.bind_some, gd_t, h.all]); rfl) | rfl)); (focus (first | exact True.intro | omega))) | ((with_reducible apply wp_ifJF); (focus (first | ((simp (disch := omega) only [J_lit, J_add, J_sub, J_mul, J_neg, J_n, jle, jlt, jeq, jnn, jnat, Int.toNat_natCast, bJ_0, bJ_1, bft, gd_T, nar_J, nar_0, nar_1, if_true, if_false, Option.bind_some, gd_t, h.all]); rfl) | rfl)); (focus (first | exact not_false | omega))) | ((with_reducible apply wp_ifJ); (focus (first | ((simp (disch := omega) only [J_lit, J_add, J_sub, J_mul, J_neg, J_n, jle, jlt, jeq, jnn, jnat, Int.toNat_natCast, bJ_0, bJ_1, bft, gd_T, nar_J, nar_0, nar_1, if_true, if_false, Option.bind_some, gd_t, h.all]); rfl) | rfl)); all_goals intro _) | (with_reducible apply wp_some) | ((with_reducible apply wp_eli); try dsimp only) | ((with_reducible apply wp_elr); try dsimp only) | ((with_reducible apply wp_bindE); (focus ((simp (disch := omega) only [J_lit, J_add, J_sub, J_mul, J_neg, J_n, jle, jlt, jeq, jnn, jnat, Int.toNat_natCast, bJ_0, bJ_1, bft, gd_T, nar_J, nar_0, nar_1, if_true, if_false, Option.bind_some, gd_t, h.all]); rfl)); try dsimp only) | (with_reducible apply wp_bind))); all_goals (try (simp (disch := omega) only [J_lit, J_add, J_sub, J_mul, J_neg, J_n, jle, jlt, jeq, jnn, jnat, Int.toNat_natCast, bJ_0, bJ_1, bft, gd_T, nar_J, nar_0, nar_1, if_true, if_false, Option.bind_some, gd_t, h.all])))
      exact ⟨x, ho⟩
    · have hb := hT.b (c := k) (by omega)
      have hA := h.eqx_ x (by decide)
      have eb := hA.cb k (by omega)
      have k3 : ∃ A2, lpF (fun v : Int32 × OhI => mX4_roll_b39 n FI FR v.2 AN (J k) v.1) n (J (T.ca k).beg, A) = some A2 ∧ eqx [182] A A2 ∧ ∀ x : Nat, x < 721 → A2 182 0 x = if (T.ca k).kind ≠ 0 ∧ (T.ca k).beg ≤ (x : Int) ∧ (x : Int) < (T.ca k).fin then J 1 else A 182 0 x := by
        have key : wp (lpF (fun v : Int32 × OhI => mX4_roll_b39 n FI FR v.2 AN (J k) v.1) n (J (T.ca k).beg, A)) (fun A2 => eqx [182] A A2 ∧ ∀ x : Nat, x < 721 → A2 182 0 x = if (T.ca k).kind ≠ 0 ∧ (T.ca k).beg ≤ (x : Int) ∧ (x : Int) < (T.ca k).fin then J 1 else A 182 0 x) := by
          refine wp_for (T.long k).toNat (fun i a => ∃ A2, a = (J ((T.ca k).beg + (i : Int)), A2) ∧ (i = 0 ∨ (T.ca k).kind ≠ 0) ∧ eqx [182] A A2 ∧ ∀ x : Nat, x < 721 → A2 182 0 x = if (T.ca k).beg ≤ (x : Int) ∧ (x : Int) < (T.ca k).beg + (i : Int) then J 1 else A 182 0 x) ?_ (k0 := 0) ⟨A, by simp, .inl rfl, eqx_refl, fun i hi => by rw [if_neg (by omega)]⟩ (by omega) (by unfold PTb.long; omega)
          rintro i a hi ⟨A2, rfl, hz, y, hy⟩
          have hA2 := hA.eqx_ y (by decide)
          have hlong : T.long k = (T.ca k).fin - (T.ca k).beg := rfl
          dsimp only
          unfold mX4_roll_b39
          ((repeat' (first | ((with_reducible apply wp_let); try dsimp only) | ((with_reducible apply wp_gdJ); (focus (first | ((simp (disch := omega) only [J_lit, J_add, J_sub, J_mul, J_neg, J_n, jle, jlt, jeq, jnn, jnat, Int.toNat_natCast, bJ_0, bJ_1, bft, gd_T, nar_J, nar_0, nar_1, if_true, if_false, Option.bind_some, gd_t, hA2.cf k (by omega), hA2.ck k (by omega)]); rfl) | rfl)); (focus (first | exact True.intro | (first | exact vp_J (by omega) (by omega) (by omega) | omega)))) | ((with_reducible apply wp_ifJT); (focus (first | ((simp (disch := omega) only [J_lit, J_add, J_sub, J_mul, J_neg, J_n, jle, jlt, jeq, jnn, jnat, Int.toNat_natCast, bJ_0, bJ_1, bft, gd_T, nar_J, nar_0, nar_1, if_true, if_false, Option.bind_some, gd_t, hA2.cf k (by omega), hA2.ck k (by omega)]); rfl) | rfl)); (focus (first | exact True.intro | omega))) | ((with_reducible apply wp_ifJF); (focus (first | ((simp (disch := omega) only [J_lit, J_add, J_sub, J_mul, J_neg, J_n, jle, jlt, jeq, jnn, jnat, Int.toNat_natCast, bJ_0, bJ_1, bft, gd_T, nar_J, nar_0, nar_1, if_true, if_false, Option.bind_some, gd_t, hA2.cf k (by omega), hA2.ck k (by omega)]); rfl) | rfl)); (focus (first | exact not_false | omega))) | ((with_reducible apply wp_ifJ); (focus (first | ((simp (disch := omega) only [J_lit, J_add, J_sub, J_mul, J_neg, J_n, jle, jlt, jeq, jnn, jnat, Int.toNat_natCast, bJ_0, bJ_1, bft, gd_T, nar_J, nar_0, nar_1, if_true, if_false, Option.bind_some, gd_t, hA2.cf k (by omega), hA2.ck k (by omega)]); rfl) | rfl)); all_goals intro _) | (with_reducible apply wp_some) | ((with_reducible apply wp_eli); try dsimp only) | ((with_reducible apply wp_elr); try dsimp only) | ((with_reducible apply wp_bindE); (focus ((simp (disch := omega) only [J_lit, J_add, J_sub, J_mul, J_neg, J_n, jle, jlt, jeq, jnn, jnat, Int.toNat_natCast, bJ_0, bJ_1, bft, gd_T, nar_J, nar_0, nar_1, if_true, if_false, Option.bind_some, gd_t, hA2.cf k (by omega), hA2.ck k (by omega)]); rfl)); try dsimp only) | (with_reducible apply wp_bind))); all_goals (try (simp (disch := omega) only [J_lit, J_add, J_sub, J_mul, J_neg, J_n, jle, jlt, jeq, jnn, jnat, Int.toNat_natCast, bJ_0, bJ_1, bft, gd_T, nar_J, nar_0, nar_1, if_true, if_false, Option.bind_some, gd_t, hA2.cf k (by omega), hA2.ck k (by omega)])))
          · refine ⟨y, fun j hj => ?_⟩
            rw [hy j hj]
            rcases hz with hz | hz
            · subst hz; exfalso; omega
            · by_cases q : (T.ca k).beg ≤ (j : Int) ∧ (j : Int) < (T.ca k).beg + (i : Int)
              · rw [if_pos q, if_pos ⟨hz, by omega, by omega⟩]
              · rw [if_neg q, if_neg (by omega)]
          · refine ⟨y, fun j hj => ?_⟩
            rename_i hk0
            have hi0 : i = 0 := by omega
            subst hi0
            rw [hy j hj, if_neg (by omega), if_neg (by omega)]
          · refine ⟨by omega, sA A2 182 0 (uA (A2 182 0) ((T.ca k).beg + (i : Int)).toNat (J 1)), by rw [show (T.ca k).beg + (i : Int) + 1 = (T.ca k).beg + ((i + 1 : Nat) : Int) by omega], .inr (by omega), eqx_trans y (eqx_sA (by decide)), fun j hj => ?_⟩
            rw [sA_same]
            by_cases q : j = ((T.ca k).beg + (i : Int)).toNat
            · rw [q, uA_same, if_pos (by omega)]
            · rw [uA_ne _ _ q, hy j hj]
              by_cases q2 : (T.ca k).beg ≤ (j : Int) ∧ (j : Int) < (T.ca k).beg + (i : Int)
              · rw [if_pos q2, if_pos (by omega)]
              · rw [if_neg q2, if_neg (by omega)]
        obtain ⟨A2, e, y, hy⟩ := key
        exact ⟨A2, e, y, hy⟩
      obtain ⟨A2, e2, y, hy⟩ := k3
      ((repeat' (first | ((with_reducible apply wp_let); try dsimp only) | ((with_reducible apply wp_gdJ); (focus (first | ((simp (disch := omega) only [J_lit, J_add, J_sub, J_mul, J_neg, J_n, jle, jlt, jeq, jnn, jnat, Int.toNat_natCast, bJ_0, bJ_1, bft, gd_T, nar_J, nar_0, nar_1, if_true, if_false, Option.bind_some, gd_t, h.all, eb, e2]); rfl) | rfl)); (focus (first | exact True.intro | (first | exact vp_J (by omega) (by omega) (by omega) | omega)))) | ((with_reducible apply wp_ifJT); (focus (first | ((simp (disch := omega) only [J_lit, J_add, J_sub, J_mul, J_neg, J_n, jle, jlt, jeq, jnn, jnat, Int.toNat_natCast, bJ_0, bJ_1, bft, gd_T, nar_J, nar_0, nar_1, if_true, if_false, Option.bind_some, gd_t, h.all, eb, e2]); rfl) | rfl)); (focus (first | exact True.intro | omega))) | ((with_reducible apply wp_ifJF); (focus (first | ((simp (disch := omega) only [J_lit, J_add, J_sub, J_mul, J_neg, J_n, jle, jlt, jeq, jnn, jnat, Int.toNat_natCast, bJ_0, bJ_1, bft, gd_T, nar_J, nar_0, nar_1, if_true, if_false, Option.bind_some, gd_t, h.all, eb, e2]); rfl) | rfl)); (focus (first | exact not_false | omega))) | ((with_reducible apply wp_ifJ); (focus (first | ((simp (disch := omega) only [J_lit, J_add, J_sub, J_mul, J_neg, J_n, jle, jlt, jeq, jnn, jnat, Int.toNat_natCast, bJ_0, bJ_1, bft, gd_T, nar_J, nar_0, nar_1, if_true, if_false, Option.bind_some, gd_t, h.all, eb, e2]); rfl) | rfl)); all_goals intro _) | (with_reducible apply wp_some) | ((with_reducible apply wp_eli); try dsimp only) | ((with_reducible apply wp_elr); try dsimp only) | ((with_reducible apply wp_bindE); (focus ((simp (disch := omega) only [J_lit, J_add, J_sub, J_mul, J_neg, J_n, jle, jlt, jeq, jnn, jnat, Int.toNat_natCast, bJ_0, bJ_1, bft, gd_T, nar_J, nar_0, nar_1, if_true, if_false, Option.bind_some, gd_t, h.all, eb, e2]); rfl)); try dsimp only) | (with_reducible apply wp_bind))); all_goals (try (simp (disch := omega) only [J_lit, J_add, J_sub, J_mul, J_neg, J_n, jle, jlt, jeq, jnn, jnat, Int.toNat_natCast, bJ_0, bJ_1, bft, gd_T, nar_J, nar_0, nar_1, if_true, if_false, Option.bind_some, gd_t, h.all, eb, e2])))
      refine ⟨by omega, A2, rfl, eqx_trans x y, fun j hj => ?_⟩
      rw [hy j hj, ho j hj]
      by_cases q : (T.ca k).kind ≠ 0 ∧ (T.ca k).beg ≤ (j : Int) ∧ (j : Int) < (T.ca k).fin
      · rw [if_pos q]; rw [anyN_succ, decide_eq_true q, Bool.or_true]; rfl
      · rw [if_neg q]; rw [anyN_succ, decide_eq_false q, Bool.or_false]
  obtain ⟨A2, e2, x2, h2⟩ := k2
  exact ⟨A2, x2, h2, A1, e1, e2⟩
end
end
