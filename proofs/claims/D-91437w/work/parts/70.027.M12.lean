noncomputable section
set_option linter.unusedVariables false
set_option linter.unusedSimpArgs false
/-! PLAIN 15: the twin's table is loaded -/
theorem ix_inj {c r c2 r2 : Nat} (h : r < 8) (h2 : r2 < 8) : (8 * (c : Int) + (r : Int)).toNat = (8 * (c2 : Int) + (r2 : Int)).toNat ↔ c = c2 ∧ r = r2 := by omega
theorem MCs_up {all site : Nat} {f : Nat → Nat → Int} {AI : OhI} {c r : Nat} {v : Int} (hr : r < 8) (h : MCs all site f AI) : MCs all site (upT f c r v) (sA AI site 0 (uA (AI site 0) (8 * (c : Int) + (r : Int)).toNat (J v))) := by
  intro c2 r2 hc2 hr2
  rw [sA_same]
  by_cases q : c2 = c ∧ r2 = r
  · obtain ⟨rfl, rfl⟩ := q
    rw [uA_same]; simp [upT]
  · rw [uA_ne _ _ (by rw [Ne, ix_inj hr2 hr]; exact q), h c2 r2 hc2 hr2]; simp [upT, q]
theorem MCs_sA {all site s2 : Nat} {f : Nat → Nat → Int} {AI : OhI} {g : Nat → Int32} (h : MCs all site f AI) (hs : site ≠ s2) : MCs all site f (sA AI s2 0 g) := by
  intro c r hc hr; rw [sA_site _ _ _ hs]; exact h c r hc hr
section
variable {S : PSt} {n : Nat} {FR : OhQ} {AN : OhN} {FI AI : OhI}
theorem q4_load (hS : PStOk S) (h : MSt S FI AI) (hc : MCa S.nC S.ca AI) (hn : 10000 ≤ n) {t : Int} (ht : -2147483648 ≤ t ∧ t < 2147483648) :
    ∃ AI2, mX4_load n FI FR AI AN (J t) = some (sA FI 1 0 (uA (uA (FI 1 0) 78 (J t)) 71 (J S.nC)), AI2) ∧ eqx [172, 173, 174, 175, 176, 177] AI AI2 ∧ MTb (tbl S t) (sA FI 1 0 (uA (uA (FI 1 0) 78 (J t)) 71 (J S.nC))) AI2 := by
  have hC := hS.nC
  have hP := hS.nP
  have e70 := h.nC
  have hFI : sA (sA FI 1 0 (uA (FI 1 0) 78 (J t))) 1 0 (uA (sA FI 1 0 (uA (FI 1 0) 78 (J t)) 1 0) 71 (sA FI 1 0 (uA (FI 1 0) 78 (J t)) 1 0 70)) = sA FI 1 0 (uA (uA (FI 1 0) 78 (J t)) 71 (J S.nC)) := by
    rw [sA_sA, sA_same, uA_ne _ _ (by decide), e70]
  generalize hFI2 : sA FI 1 0 (uA (uA (FI 1 0) 78 (J t)) 71 (J S.nC)) = FI2 at hFI
  have f69 : FI2 1 0 69 = J S.nP := by rw [← hFI2, sA_same, uA_ne _ _ (by decide), uA_ne _ _ (by decide)]; exact h.nP
  have h' : MSt S FI2 AI := h.congr (fun k hk => by
    rw [← hFI2, sA_same]
    rw [uA_ne _ _ (by intro q; subst q; revert hk; decide), uA_ne _ _ (by intro q; subst q; revert hk; decide)]) (fun _ _ => rfl)
  have k1 : wp (lpF (fun v : Int32 × OhI => mX4_load_b15 n FI2 FR v.2 AN (J t) v.1) n (J 0, AI)) (fun A => eqx [172, 173, 174] AI A ∧ ∀ i, i < 528 → A 172 0 i = J (-1) ∧ A 173 0 i = J (-1) ∧ A 174 0 i = J (-1)) := by
    refine wp_for 528 (fun k a => ∃ A, a = (J k, A) ∧ eqx [172, 173, 174] AI A ∧ ∀ i, i < k → A 172 0 i = J (-1) ∧ A 173 0 i = J (-1) ∧ A 174 0 i = J (-1)) ?_ (k0 := 0) ⟨AI, rfl, eqx_refl, fun i hi => by omega⟩ (by omega) (by omega)
    rintro k a hk ⟨A, rfl, x, ho⟩
    dsimp only
    unfold mX4_load_b15
    by_cases e : k = 528
    · subst e
      ((repeat' (first | ((with_reducible apply wp_let); try dsimp only) | ((with_reducible apply wp_gdJ); (focus (first | ((simp (disch := omega) only [J_lit, J_add, J_sub, J_mul, J_neg, J_n, jle, jlt, jeq, jnn, jnat, Int.toNat_natCast, bJ_0, bJ_1, bft, gd_T, nar_J, nar_0, nar_1, if_true, if_false, Option.bind_some, gd_t]); rfl) | rfl)); (focus (first | exact True.intro | (first | exact vp_J (by omega) (by omega) (by omega) | omega)))) | ((with_reducible apply wp_ifJT); (focus (first | ((simp (disch := omega) only [J_lit, J_add, J_sub, J_mul, J_neg, J_n, jle, jlt, jeq, jnn, jnat, Int.toNat_natCast, bJ_0, bJ_1, bft, gd_T, nar_J, nar_0, nar_1, if_true, if_false, Option.bind_some, gd_t]); rfl) | rfl)); (focus (first | exact True.intro | omega))) | ((with_reducible apply wp_ifJF); (focus (first | ((simp (disch := omega) only [J_lit, J_add, J_sub, J_mul, J_neg, J_n, jle, jlt, jeq, jnn, jnat, Int.toNat_natCast, bJ_0, bJ_1, bft, gd_T, nar_J, nar_0, nar_1, if_true, if_false, Option.bind_some, gd_t]); rfl) | rfl)); (focus (first | exact not_false | omega))) | ((with_reducible apply wp_ifJ); (focus (first | ((simp (disch := omega) only [J_lit, J_add, J_sub, J_mul, J_neg, J_n, jle, jlt, jeq, jnn, jnat, Int.toNat_natCast, bJ_0, bJ_1, bft, gd_T, nar_J, nar_0, nar_1, if_true, if_false, Option.bind_some, gd_t]); rfl) | rfl)); all_goals intro _) | (with_reducible apply wp_some) | ((with_reducible apply wp_eli); try dsimp only) | ((with_reducible apply wp_elr); try dsimp only) | ((with_reducible apply wp_bindE); (focus ((simp (disch := omega) only [J_lit, J_add, J_sub, J_mul, J_neg, J_n, jle, jlt, jeq, jnn, jnat, Int.toNat_natCast, bJ_0, bJ_1, bft, gd_T, nar_J, nar_0, nar_1, if_true, if_false, Option.bind_some, gd_t]); rfl)); try dsimp only) | (with_reducible apply wp_bind))); all_goals (try (simp (disch := omega) only [J_lit, J_add, J_sub, J_mul, J_neg, J_n, jle, jlt, jeq, jnn, jnat, Int.toNat_natCast, bJ_0, bJ_1, bft, gd_T, nar_J, nar_0, nar_1, if_true, if_false, Option.bind_some, gd_t])))
      exact ⟨x, ho⟩
    · ((repeat' (first | ((with_reducible apply wp_let); try dsimp only) | ((with_reducible apply wp_gdJ); (focus (first | ((simp (disch := omega) only [J_lit, J_add, J_sub, J_mul, J_neg, J_n, jle, jlt, jeq, jnn, jnat, Int.toNat_natCast, bJ_0, bJ_1, bft, gd_T, nar_J, nar_0, nar_1, if_true, if_false, Option.bind_some, gd_t]); rfl) | rfl)); (focus (first | exact True.intro | (first | exact vp_J (by omega) (by omega) (by omega) | omega)))) | ((with_reducible apply wp_ifJT); (focus (first | ((simp (disch := omega) only [J_lit, J_add, J_sub, J_mul, J_neg, J_n, jle, jlt, jeq, jnn, jnat, Int.toNat_natCast, bJ_0, bJ_1, bft, gd_T, nar_J, nar_0, nar_1, if_true, if_false, Option.bind_some, gd_t]); rfl) | rfl)); (focus (first | exact True.intro | omega))) | ((with_reducible apply wp_ifJF); (focus (first | ((simp (disch := omega) only [J_lit, J_add, J_sub, J_mul, J_neg, J_n, jle, jlt, jeq, jnn, jnat, Int.toNat_natCast, bJ_0, bJ_1, bft, gd_T, nar_J, nar_0, nar_1, if_true, if_false, Option.bind_some, gd_t]); rfl) | rfl)); (focus (first | exact not_false | omega))) | ((with_reducible apply wp_ifJ); (focus (first | ((simp (disch := omega) only [J_lit, J_add, J_sub, J_mul, J_neg, J_n, jle, jlt, jeq, jnn, jnat, Int.toNat_natCast, bJ_0, bJ_1, bft, gd_T, nar_J, nar_0, nar_1, if_true, if_false, Option.bind_some, gd_t]); rfl) | rfl)); all_goals intro _) | (with_reducible apply wp_some) | ((with_reducible apply wp_eli); try dsimp only) | ((with_reducible apply wp_elr); try dsimp only) | ((with_reducible apply wp_bindE); (focus ((simp (disch := omega) only [J_lit, J_add, J_sub, J_mul, J_neg, J_n, jle, jlt, jeq, jnn, jnat, Int.toNat_natCast, bJ_0, bJ_1, bft, gd_T, nar_J, nar_0, nar_1, if_true, if_false, Option.bind_some, gd_t]); rfl)); try dsimp only) | (with_reducible apply wp_bind))); all_goals (try (simp (disch := omega) only [J_lit, J_add, J_sub, J_mul, J_neg, J_n, jle, jlt, jeq, jnn, jnat, Int.toNat_natCast, bJ_0, bJ_1, bft, gd_T, nar_J, nar_0, nar_1, if_true, if_false, Option.bind_some, gd_t])))
      refine ⟨by omega, _, rfl, eqx_trans x (eqx_trans (eqx_sA (by decide)) (eqx_trans (eqx_sA (by decide)) (eqx_sA (by decide)))), ?_⟩
      intro i hi
      by_cases q : i = k
      · subst q; simp [sA_at, uA_at]
      · have := ho i (by omega)
        simp [sA_at, uA_at, q, this]
  obtain ⟨A1, e1, x1, o1⟩ := k1
  have k2 : wp (lpF (fun v : Int32 × OhI => mX4_load_b51 n FI2 FR v.2 AN (J t) v.1) n (J 0, A1)) (fun A => eqx [172, 173, 174] AI A ∧ MCs 66 172 (tabN S t S.nP).1 A ∧ MCs 66 174 (tabN S t S.nP).2.1 A ∧ MCs 66 173 (tabN S t S.nP).2.2 A) := by
    refine wp_for S.nP (fun k a => ∃ A, a = (J k, A) ∧ eqx [172, 173, 174] AI A ∧ MCs 66 172 (tabN S t k).1 A ∧ MCs 66 174 (tabN S t k).2.1 A ∧ MCs 66 173 (tabN S t k).2.2 A) ?_ (k0 := 0) ⟨A1, rfl, x1, fun c r _ _ => (o1 _ (by omega)).1, fun c r _ _ => (o1 _ (by omega)).2.2, fun c r _ _ => (o1 _ (by omega)).2.1⟩ (by omega) (by omega)
    rintro k a hk ⟨A, rfl, x, m1, m2, m3⟩
    dsimp only
    by_cases e : k = S.nP
    · subst e
      unfold mX4_load_b51
      ((repeat' (first | ((with_reducible apply wp_let); try dsimp only) | ((with_reducible apply wp_gdJ); (focus (first | ((simp (disch := omega) only [J_lit, J_add, J_sub, J_mul, J_neg, J_n, jle, jlt, jeq, jnn, jnat, Int.toNat_natCast, bJ_0, bJ_1, bft, gd_T, nar_J, nar_0, nar_1, if_true, if_false, Option.bind_some, gd_t, f69]); rfl) | rfl)); (focus (first | exact True.intro | (first | exact vp_J (by omega) (by omega) (by omega) | omega)))) | ((with_reducible apply wp_ifJT); (focus (first | ((simp (disch := omega) only [J_lit, J_add, J_sub, J_mul, J_neg, J_n, jle, jlt, jeq, jnn, jnat, Int.toNat_natCast, bJ_0, bJ_1, bft, gd_T, nar_J, nar_0, nar_1, if_true, if_false, Option.bind_some, gd_t, f69]); rfl) | rfl)); (focus (first | exact True.intro | omega))) | ((with_reducible apply wp_ifJF); (focus (first | ((simp (disch := omega) only [J_lit, J_add, J_sub, J_mul, J_neg, J_n, jle, jlt, jeq, jnn, jnat, Int.toNat_natCast, bJ_0, bJ_1, bft, gd_T, nar_J, nar_0, nar_1, if_true, if_false, Option.bind_some, gd_t, f69]); rfl) | rfl)); (focus (first | exact not_false | omega))) | ((with_reducible apply wp_ifJ); (focus (first | ((simp (disch := omega) only [J_lit, J_add, J_sub, J_mul, J_neg, J_n, jle, jlt, jeq, jnn, jnat, Int.toNat_natCast, bJ_0, bJ_1, bft, gd_T, nar_J, nar_0, nar_1, if_true, if_false, Option.bind_some, gd_t, f69]); rfl) | rfl)); all_goals intro _) | (with_reducible apply wp_some) | ((with_reducible apply wp_eli); try dsimp only) | ((with_reducible apply wp_elr); try dsimp only) | ((with_reducible apply wp_bindE); (focus ((simp (disch := omega) only [J_lit, J_add, J_sub, J_mul, J_neg, J_n, jle, jlt, jeq, jnn, jnat, Int.toNat_natCast, bJ_0, bJ_1, bft, gd_T, nar_J, nar_0, nar_1, if_true, if_false, Option.bind_some, gd_t, f69]); rfl)); try dsimp only) | (with_reducible apply wp_bind))); all_goals (try (simp (disch := omega) only [J_lit, J_add, J_sub, J_mul, J_neg, J_n, jle, jlt, jeq, jnn, jnat, Int.toNat_natCast, bJ_0, bJ_1, bft, gd_T, nar_J, nar_0, nar_1, if_true, if_false, Option.bind_some, gd_t, f69])))
      exact ⟨x, m1, m2, m3⟩
    · have hA := h'.eqx_ x (by decide)
      have hp := hS.pt k (by omega)
      have h8 := (hS.op _ (hS.ca _ hp.1).op).nr
      have hSn := hS.nS
      have e1 := hA.ptD k (by omega)
      have e2 := hA.ptC k (by omega)
      have e3 := hA.ptR k (by omega)
      have e4 := hA.ptW k (by omega)
      have e5 := hA.ptV k (by omega)
      have e7 : ∀ g, sA A 174 0 g 158 0 k = J (S.pt k).who := fun g => e4
      have b1 := tabN_b hS (t := t) k (by omega) (S.pt k).call (S.pt k).role
      have e6 := m1 (S.pt k).call (S.pt k).role (by omega) (by omega)
      unfold mX4_load_b51
      ((repeat' (first | ((with_reducible apply wp_let); try dsimp only) | ((with_reducible apply wp_gdJ); (focus (first | ((simp (disch := omega) only [J_lit, J_add, J_sub, J_mul, J_neg, J_n, jle, jlt, jeq, jnn, jnat, Int.toNat_natCast, bJ_0, bJ_1, bft, gd_T, nar_J, nar_0, nar_1, if_true, if_false, Option.bind_some, gd_t, f69, e1, e2, e3, e4, e5, e6, e7]); rfl) | rfl)); (focus (first | exact True.intro | (first | exact vp_J (by omega) (by omega) (by omega) | omega)))) | ((with_reducible apply wp_ifJT); (focus (first | ((simp (disch := omega) only [J_lit, J_add, J_sub, J_mul, J_neg, J_n, jle, jlt, jeq, jnn, jnat, Int.toNat_natCast, bJ_0, bJ_1, bft, gd_T, nar_J, nar_0, nar_1, if_true, if_false, Option.bind_some, gd_t, f69, e1, e2, e3, e4, e5, e6, e7]); rfl) | rfl)); (focus (first | exact True.intro | omega))) | ((with_reducible apply wp_ifJF); (focus (first | ((simp (disch := omega) only [J_lit, J_add, J_sub, J_mul, J_neg, J_n, jle, jlt, jeq, jnn, jnat, Int.toNat_natCast, bJ_0, bJ_1, bft, gd_T, nar_J, nar_0, nar_1, if_true, if_false, Option.bind_some, gd_t, f69, e1, e2, e3, e4, e5, e6, e7]); rfl) | rfl)); (focus (first | exact not_false | omega))) | ((with_reducible apply wp_ifJ); (focus (first | ((simp (disch := omega) only [J_lit, J_add, J_sub, J_mul, J_neg, J_n, jle, jlt, jeq, jnn, jnat, Int.toNat_natCast, bJ_0, bJ_1, bft, gd_T, nar_J, nar_0, nar_1, if_true, if_false, Option.bind_some, gd_t, f69, e1, e2, e3, e4, e5, e6, e7]); rfl) | rfl)); all_goals intro _) | (with_reducible apply wp_some) | ((with_reducible apply wp_eli); try dsimp only) | ((with_reducible apply wp_elr); try dsimp only) | ((with_reducible apply wp_bindE); (focus ((simp (disch := omega) only [J_lit, J_add, J_sub, J_mul, J_neg, J_n, jle, jlt, jeq, jnn, jnat, Int.toNat_natCast, bJ_0, bJ_1, bft, gd_T, nar_J, nar_0, nar_1, if_true, if_false, Option.bind_some, gd_t, f69, e1, e2, e3, e4, e5, e6, e7]); rfl)); try dsimp only) | (with_reducible apply wp_bind))); all_goals (try (simp (disch := omega) only [J_lit, J_add, J_sub, J_mul, J_neg, J_n, jle, jlt, jeq, jnn, jnat, Int.toNat_natCast, bJ_0, bJ_1, bft, gd_T, nar_J, nar_0, nar_1, if_true, if_false, Option.bind_some, gd_t, f69, e1, e2, e3, e4, e5, e6, e7])))
      · have hcv : (S.pt k).cover = false := by assumption
        refine ⟨by omega, _, rfl, eqx_trans x (eqx_trans (eqx_sA (by decide)) (eqx_sA (by decide))), ?_⟩
        simp only [tabN]
        rw [if_neg (by omega), if_neg (by simp [hcv])]
        refine ⟨?_, MCs_sA ?_ (by decide), MCs_sA (MCs_sA m3 (by decide)) (by decide)⟩
        · have := MCs_up (c := (S.pt k).call) (r := (S.pt k).role) (v := (S.pt k).who) (by omega) (MCs_sA (s2 := 174) (g := uA (A 174 0) (8 * ((S.pt k).call : Int) + ((S.pt k).role : Int)).toNat (J ((tabN S t k).1 (S.pt k).call (S.pt k).role))) m1 (by decide))
          exact this
        · exact MCs_up (by omega) m2
      · have hcv : ¬ (S.pt k).cover = false := by assumption
        refine ⟨by omega, _, rfl, eqx_trans x (eqx_sA (by decide)), ?_⟩
        simp only [tabN]
        rw [if_neg (by omega), if_pos (by simpa using hcv)]
        exact ⟨MCs_sA m1 (by decide), MCs_sA m2 (by decide), MCs_up (by omega) m3⟩
      · refine ⟨by omega, A, rfl, x, ?_⟩
        simp only [tabN]
        rw [if_pos (by omega)]
        exact ⟨m1, m2, m3⟩
  obtain ⟨A2, e2, x2, m1, m2, m3⟩ := k2
  have mm : ∀ {s : Nat} {f : Nat → Nat → Int} {A : OhI}, MCs 66 s f A → MCs S.nC s f A := fun m c r hc hr => m c r (by omega) hr
  have g71 : FI2 1 0 71 = J S.nC := by rw [← hFI2, sA_same, uA_same]
  have g78 : FI2 1 0 78 = J t := by rw [← hFI2, sA_same, uA_ne _ _ (by decide), uA_same]
  obtain ⟨A3, e3, x3, o1, o2, o3⟩ := q4_sort (n := n) (FR := FR) (AN := AN) hS (h'.eqx_ x2 (by decide)) (hc.eqx_ x2 (by decide)) (mm m1) (by omega) g71 hS.ca (fun c r hc hr => (tabN_b hS _ (Nat.le_refl _) c r).1) hn
  have x4 : eqx [172, 173, 174, 175, 176, 177] AI A3 := eqx_trans (eqx_mono x2 (by decide)) (eqx_mono x3 (by decide))
  refine ⟨A3, wp_eq ?_, x4, MTb_of hS (h'.eqx_ x4 (by decide)) (hc.eqx_ x4 (by decide)) ((mm m1).eqx_ x3 (by decide)) ((mm m3).eqx_ x3 (by decide)) ((mm m2).eqx_ x3 (by decide)) g71 g78 o1 o2 o3⟩
  unfold mX4_load
  ((repeat' (first | ((with_reducible apply wp_let); try dsimp only) | ((with_reducible apply wp_gdJ); (focus (first | ((simp (disch := omega) only [J_lit, J_add, J_sub, J_mul, J_neg, J_n, jle, jlt, jeq, jnn, jnat, Int.toNat_natCast, bJ_0, bJ_1, bft, gd_T, nar_J, nar_0, nar_1, if_true, if_false, Option.bind_some, gd_t, hFI, e1, e2, e3]); rfl) | rfl)); (focus (first | exact True.intro | (first | exact vp_J (by omega) (by omega) (by omega) | omega)))) | ((with_reducible apply wp_ifJT); (focus (first | ((simp (disch := omega) only [J_lit, J_add, J_sub, J_mul, J_neg, J_n, jle, jlt, jeq, jnn, jnat, Int.toNat_natCast, bJ_0, bJ_1, bft, gd_T, nar_J, nar_0, nar_1, if_true, if_false, Option.bind_some, gd_t, hFI, e1, e2, e3]); rfl) | rfl)); (focus (first | exact True.intro | omega))) | ((with_reducible apply wp_ifJF); (focus (first | ((simp (disch := omega) only [J_lit, J_add, J_sub, J_mul, J_neg, J_n, jle, jlt, jeq, jnn, jnat, Int.toNat_natCast, bJ_0, bJ_1, bft, gd_T, nar_J, nar_0, nar_1, if_true, if_false, Option.bind_some, gd_t, hFI, e1, e2, e3]); rfl) | rfl)); (focus (first | exact not_false | omega))) | ((with_reducible apply wp_ifJ); (focus (first | ((simp (disch := omega) only [J_lit, J_add, J_sub, J_mul, J_neg, J_n, jle, jlt, jeq, jnn, jnat, Int.toNat_natCast, bJ_0, bJ_1, bft, gd_T, nar_J, nar_0, nar_1, if_true, if_false, Option.bind_some, gd_t, hFI, e1, e2, e3]); rfl) | rfl)); all_goals intro _) | (with_reducible apply wp_some) | ((with_reducible apply wp_eli); try dsimp only) | ((with_reducible apply wp_elr); try dsimp only) | ((with_reducible apply wp_bindE); (focus ((simp (disch := omega) only [J_lit, J_add, J_sub, J_mul, J_neg, J_n, jle, jlt, jeq, jnn, jnat, Int.toNat_natCast, bJ_0, bJ_1, bft, gd_T, nar_J, nar_0, nar_1, if_true, if_false, Option.bind_some, gd_t, hFI, e1, e2, e3]); rfl)); try dsimp only) | (with_reducible apply wp_bind))); all_goals (try (simp (disch := omega) only [J_lit, J_add, J_sub, J_mul, J_neg, J_n, jle, jlt, jeq, jnn, jnat, Int.toNat_natCast, bJ_0, bJ_1, bft, gd_T, nar_J, nar_0, nar_1, if_true, if_false, Option.bind_some, gd_t, hFI, e1, e2, e3])))
end
end
