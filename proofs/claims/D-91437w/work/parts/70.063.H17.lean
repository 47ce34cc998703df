noncomputable section
set_option linter.unusedVariables false
set_option linter.unusedSimpArgs false
/-! PLAIN 57: the house: who may have a role -/
def scH : List Nat := [323, 324, 325, 419, 420, 421, 422, 428]
def HFm (FI FI2 AI AI2 : OhI) (BR BR2 : OhQ) : Prop :=
  (∀ s i, s ≠ 0 → s ≠ 327 → FI2 s i = FI s i) ∧
  (∀ k, k ≠ 17 → k ≠ 18 → FI2 0 0 k = FI 0 0 k) ∧
  (eqx scH AI AI2) ∧
  (∀ s, s ≠ 316 → BR2 s = BR s)
theorem HFm.mk {FI FI2 AI AI2 : OhI} {BR BR2 : OhQ}
    (f : ∀ s i, s ≠ 0 → s ≠ 327 → FI2 s i = FI s i)
    (f0 : ∀ k, k ≠ 17 → k ≠ 18 → FI2 0 0 k = FI 0 0 k)
    (a : eqx scH AI AI2)
    (b : ∀ s, s ≠ 316 → BR2 s = BR s) :
    HFm FI FI2 AI AI2 BR BR2 := ⟨f, f0, a, b⟩
theorem HFm.f {FI FI2 AI AI2 : OhI} {BR BR2 : OhQ} (h : HFm FI FI2 AI AI2 BR BR2) : ∀ s i, s ≠ 0 → s ≠ 327 → FI2 s i = FI s i := h.1
theorem HFm.f0 {FI FI2 AI AI2 : OhI} {BR BR2 : OhQ} (h : HFm FI FI2 AI AI2 BR BR2) : ∀ k, k ≠ 17 → k ≠ 18 → FI2 0 0 k = FI 0 0 k := h.2.1
theorem HFm.a {FI FI2 AI AI2 : OhI} {BR BR2 : OhQ} (h : HFm FI FI2 AI AI2 BR BR2) : eqx scH AI AI2 := h.2.2.1
theorem HFm.b {FI FI2 AI AI2 : OhI} {BR BR2 : OhQ} (h : HFm FI FI2 AI AI2 BR BR2) : ∀ s, s ≠ 316 → BR2 s = BR s := h.2.2.2
theorem HFm.refl {FI AI : OhI} {BR : OhQ} : HFm FI FI AI AI BR BR := ⟨fun _ _ _ _ => rfl, fun _ _ _ => rfl, eqx_refl, fun _ _ => rfl⟩
theorem HFm.trans {FI FI2 FI3 AI AI2 AI3 : OhI} {BR BR2 BR3 : OhQ} (h : HFm FI FI2 AI AI2 BR BR2) (h2 : HFm FI2 FI3 AI2 AI3 BR2 BR3) : HFm FI FI3 AI AI3 BR BR3 :=
  ⟨fun s i q1 q2 => (h2.f s i q1 q2).trans (h.f s i q1 q2), fun k q q2 => (h2.f0 k q q2).trans (h.f0 k q q2), eqx_trans h.a h2.a, fun s q => (h2.b s q).trans (h.b s q)⟩
theorem HFm.fr {FI FI2 AI AI2 : OhI} {BR BR2 : OhQ} (h : HFm FI FI2 AI AI2 BR BR2) : HFr FI FI2 AI AI2 BR BR2 :=
  ⟨fun s i q1 q2 => h.f s i (by rintro rfl; exact absurd q2 (by decide)) (by rintro rfl; exact q1 (by decide)), fun k hk => h.f0 k (by rintro rfl; revert hk; decide) (by rintro rfl; revert hk; decide), fun s hs => h.a s (fun q => by revert s; decide), fun s q => h.b s (by rintro rfl; exact q (by decide))⟩
theorem HFm.ly {FI AI A : OhI} {BR : OhQ} {t : Int} {k : Nat} {f : Nat → OhR} {L : List Nat} (x : eqx L AI A) (hL : ∀ s ∈ L, s ∈ scH) : HFm FI (lyF FI t k) AI A BR (sA BR 316 0 f) :=
  ⟨fun s i q _ => sA_ne _ _ (by rintro ⟨rfl, _⟩; exact q rfl), fun k q1 q2 => lyF_ne _ _ _ q1 q2, eqx_mono x hL, fun s q => sA_site _ _ _ q⟩
theorem HFm.ask {FI AI A : OhI} {BR : OhQ} {w : Nat → Int32} {L : List Nat} (x : eqx L AI A) (hL : ∀ s ∈ L, s ∈ scH) : HFm FI (sA FI 327 0 w) AI A BR BR :=
  ⟨fun s i _ q => sA_ne _ _ (by rintro ⟨rfl, _⟩; exact q rfl), fun k q1 q2 => by rw [sA_ne _ _ (by decide)], eqx_mono x hL, fun s q => rfl⟩
theorem HFm.ai {FI AI A : OhI} {BR : OhQ} {L : List Nat} (x : eqx L AI A) (hL : ∀ s ∈ L, s ∈ scH) : HFm FI FI AI A BR BR :=
  ⟨fun s i _ q => rfl, fun k q1 q2 => rfl, eqx_mono x hL, fun s q => rfl⟩
theorem ones_bt : ∀ j : Fin 32, bt (J 64768) j.1 = (decide (8 ≤ j.1 ∧ j.1 ≤ 15) && j.1 != 9) := by rw [J_def]; decide +kernel
section
variable {T : PTb} {Z : PZ} {FI : OhI} {FR GR : OhQ} {AI : OhI} {AR BR : OhQ} {AN : OhN} {n : Nat}
variable {k : Nat}
theorem HTb.casts {A : OhI} {L : List Nat} (h : HTb T Z FI FR GR AI BR AN) (x : eqx L AI A) (hL : ∀ s ∈ L, s ∉ [5, 307, 308, 421]) {ct ah : Nat → Nat → Int} (c1 : hCs T.all 419 ct A) (c2 : hCs T.all 420 ah A) : HTb ((T.s_cast (ct)).s_ahead (ah)) Z FI FR GR A BR AN := HTb.mk (toHSt := h.toHSt.congr ⟨fun _ _ _ _ => rfl, fun _ _ => rfl, fun s hs => x s (fun q => hL s q ((by decide : ∀ s ∈ [5, 307, 308], s ∈ [5, 307, 308, 421]) s hs)), fun _ _ => rfl⟩) (ca := h.ca) (cinj := h.cinj) (ordered := h.ordered) (asOf := h.asOf) (order := h.order) (cast := c1) (ahead := c2) (cover := by rw [x 421 (fun q => hL 421 q (by decide))]; exact h.cover)
theorem h_keepW (h : HTb T Z FI FR GR AI BR AN) (hT : PTbOk T) (hl : HLn AN) (hn : 10000 ≤ n) {s : Nat} (hs : s < 20) :
    ∃ A, mX1_keepWrongs n FI FR AI AR BR AN (J s) = some A ∧ eqx [428] AI A ∧ ∀ c r, c < T.all → r < 8 → A 428 c r = if T.cast c r = (s : Int) then AI 422 c r &&& J 64768 else J 0 := by
  have h66 := hT.all
  have key : wp (lpF (fun v : Int32 × OhI => mX1_keepWrongs_b2 n FI FR v.2 AR BR AN (J s) v.1) n (J 0, AI)) (fun A => eqx [428] AI A ∧ ∀ c r, c < T.all → r < 8 → A 428 c r = if T.cast c r = (s : Int) then AI 422 c r &&& J 64768 else J 0) := by
    refine wp_for T.all (fun k a => ∃ A, a = (J (k : Int), A) ∧ eqx [428] AI A ∧ ∀ c r, c < T.all → T.pos c < k → r < 8 → A 428 c r = if T.cast c r = (s : Int) then AI 422 c r &&& J 64768 else J 0) ?_ (k0 := 0) ⟨AI, rfl, eqx_refl, fun c r _ hc => by omega⟩ (by omega) (by omega)
    rintro k a hk ⟨A, rfl, x, ho⟩
    dsimp only
    by_cases e : k = T.all
    · subst e
      unfold mX1_keepWrongs_b2
      ((repeat' (first | ((with_reducible apply wp_let); try dsimp only) | ((with_reducible apply wp_gdJ); (focus (first | ((simp (disch := omega) only [J_lit, J_add, J_sub, J_mul, J_neg, J_n, jle, jlt, jeq, jnn, jnat, Int.toNat_natCast, bJ_0, bJ_1, bft, gd_T, nar_J, nar_0, nar_1, if_true, if_false, Option.bind_some, gd_t, h.ordered]); rfl) | rfl)); (focus (first | exact True.intro | (first | exact vp_J (by omega) (by omega) (by omega) | omega)))) | ((with_reducible apply wp_ifJT); (focus (first | ((simp (disch := omega) only [J_lit, J_add, J_sub, J_mul, J_neg, J_n, jle, jlt, jeq, jnn, jnat, Int.toNat_natCast, bJ_0, bJ_1, bft, gd_T, nar_J, nar_0, nar_1, if_true, if_false, Option.bind_some, gd_t, decide_eq_false_iff_not, decide_eq_true_eq, h.ordered]); rfl) | rfl)); (focus (first | exact True.intro | omega))) | ((with_reducible apply wp_ifJF); (focus (first | ((simp (disch := omega) only [J_lit, J_add, J_sub, J_mul, J_neg, J_n, jle, jlt, jeq, jnn, jnat, Int.toNat_natCast, bJ_0, bJ_1, bft, gd_T, nar_J, nar_0, nar_1, if_true, if_false, Option.bind_some, gd_t, decide_eq_false_iff_not, decide_eq_true_eq, h.ordered]); rfl) | rfl)); (focus (first | exact not_false | omega))) | ((with_reducible apply wp_ifJ); (focus (first | ((simp (disch := omega) only [J_lit, J_add, J_sub, J_mul, J_neg, J_n, jle, jlt, jeq, jnn, jnat, Int.toNat_natCast, bJ_0, bJ_1, bft, gd_T, nar_J, nar_0, nar_1, if_true, if_false, Option.bind_some, gd_t, decide_eq_false_iff_not, decide_eq_true_eq, h.ordered]); rfl) | rfl)); all_goals intro _) | (with_reducible apply wp_some) | ((with_reducible apply wp_eli); try dsimp only) | ((with_reducible apply wp_elr); try dsimp only) | ((with_reducible apply wp_bindE); (focus ((simp (disch := omega) only [J_lit, J_add, J_sub, J_mul, J_neg, J_n, jle, jlt, jeq, jnn, jnat, Int.toNat_natCast, bJ_0, bJ_1, bft, gd_T, nar_J, nar_0, nar_1, if_true, if_false, Option.bind_some, gd_t, h.ordered]); rfl)); try dsimp only) | (with_reducible apply wp_bind))); all_goals (try (simp (disch := omega) only [J_lit, J_add, J_sub, J_mul, J_neg, J_n, jle, jlt, jeq, jnn, jnat, Int.toNat_natCast, bJ_0, bJ_1, bft, gd_T, nar_J, nar_0, nar_1, if_true, if_false, Option.bind_some, gd_t, h.ordered])))
      exact ⟨x, fun c r hc hr => ho c r hc (hT.pos c hc) hr⟩
    · have hc := hT.ord k (by omega)
      have pk := hT.po k (by omega)
      have inner : wp (lpF (fun v : Int32 × OhI => mX1_keepWrongs_b23 n FI FR v.2 AR BR AN (J s) (J k) (J ((T.ord k : Nat) : Int)) v.1) n (J 0, A)) (fun A2 => eqx [428] A A2 ∧ (∀ d, d ≠ T.ord k → A2 428 d = A 428 d) ∧ ∀ r, r < 8 → A2 428 (T.ord k) r = if T.cast (T.ord k) r = (s : Int) then AI 422 (T.ord k) r &&& J 64768 else J 0) := by
        refine wp_for 8 (fun q a => ∃ A2, a = (J (q : Int), A2) ∧ eqx [428] A A2 ∧ (∀ d, d ≠ T.ord k → A2 428 d = A 428 d) ∧ ∀ r, r < q → A2 428 (T.ord k) r = if T.cast (T.ord k) r = (s : Int) then AI 422 (T.ord k) r &&& J 64768 else J 0) ?_ (k0 := 0) ⟨A, rfl, eqx_refl, fun _ _ => rfl, fun r hr => by omega⟩ (by omega) (by omega)
        rintro q a hq ⟨A2, rfl, x2, y2, z2⟩
        have hA2 := (h.eqx_ x (by decide)).eqx_ x2 (by decide)
        dsimp only
        unfold mX1_keepWrongs_b23 mX1_keepWrongs_j68
        by_cases e2 : q = 8
        · subst e2
          ((repeat' (first | ((with_reducible apply wp_let); try dsimp only) | ((with_reducible apply wp_gdJ); (focus (first | ((simp (disch := omega) only [J_lit, J_add, J_sub, J_mul, J_neg, J_n, jle, jlt, jeq, jnn, jnat, Int.toNat_natCast, bJ_0, bJ_1, bft, gd_T, nar_J, nar_0, nar_1, if_true, if_false, Option.bind_some, gd_t]); rfl) | rfl)); (focus (first | exact True.intro | (first | exact vp_J (by omega) (by omega) (by omega) | omega)))) | ((with_reducible apply wp_ifJT); (focus (first | ((simp (disch := omega) only [J_lit, J_add, J_sub, J_mul, J_neg, J_n, jle, jlt, jeq, jnn, jnat, Int.toNat_natCast, bJ_0, bJ_1, bft, gd_T, nar_J, nar_0, nar_1, if_true, if_false, Option.bind_some, gd_t, decide_eq_false_iff_not, decide_eq_true_eq]); rfl) | rfl)); (focus (first | exact True.intro | omega))) | ((with_reducible apply wp_ifJF); (focus (first | ((simp (disch := omega) only [J_lit, J_add, J_sub, J_mul, J_neg, J_n, jle, jlt, jeq, jnn, jnat, Int.toNat_natCast, bJ_0, bJ_1, bft, gd_T, nar_J, nar_0, nar_1, if_true, if_false, Option.bind_some, gd_t, decide_eq_false_iff_not, decide_eq_true_eq]); rfl) | rfl)); (focus (first | exact not_false | omega))) | ((with_reducible apply wp_ifJ); (focus (first | ((simp (disch := omega) only [J_lit, J_add, J_sub, J_mul, J_neg, J_n, jle, jlt, jeq, jnn, jnat, Int.toNat_natCast, bJ_0, bJ_1, bft, gd_T, nar_J, nar_0, nar_1, if_true, if_false, Option.bind_some, gd_t, decide_eq_false_iff_not, decide_eq_true_eq]); rfl) | rfl)); all_goals intro _) | (with_reducible apply wp_some) | ((with_reducible apply wp_eli); try dsimp only) | ((with_reducible apply wp_elr); try dsimp only) | ((with_reducible apply wp_bindE); (focus ((simp (disch := omega) only [J_lit, J_add, J_sub, J_mul, J_neg, J_n, jle, jlt, jeq, jnn, jnat, Int.toNat_natCast, bJ_0, bJ_1, bft, gd_T, nar_J, nar_0, nar_1, if_true, if_false, Option.bind_some, gd_t]); rfl)); try dsimp only) | (with_reducible apply wp_bind))); all_goals (try (simp (disch := omega) only [J_lit, J_add, J_sub, J_mul, J_neg, J_n, jle, jlt, jeq, jnn, jnat, Int.toNat_natCast, bJ_0, bJ_1, bft, gd_T, nar_J, nar_0, nar_1, if_true, if_false, Option.bind_some, gd_t])))
          exact ⟨x2, y2, z2⟩
        · have ec := hA2.cast (T.ord k) q hc (by omega)
          have hcb := hT.cast (T.ord k) q hc (by omega)
          have hS := hT.S.nS
          have ew : A2 422 = AI 422 := (x2 422 (by decide)).trans (x 422 (by decide))
          have eD : oD 100 (some ((428, T.ord k) : Rf)) = some (428, T.ord k) := rfl
          have fin : ∀ v : Int32, v = (if T.cast (T.ord k) q = (s : Int) then AI 422 (T.ord k) q &&& J 64768 else J 0) → q < 8 ∧ ∃ A3, (J ((q : Int) + 1), sA A2 428 (T.ord k) (uA (A2 428 (T.ord k)) q v)) = (J ((q + 1 : Nat) : Int), A3) ∧ eqx [428] A A3 ∧ (∀ d, d ≠ T.ord k → A3 428 d = A 428 d) ∧ ∀ r, r < q + 1 → A3 428 (T.ord k) r = if T.cast (T.ord k) r = (s : Int) then AI 422 (T.ord k) r &&& J 64768 else J 0 := by
            intro v hv
            refine ⟨by omega, _, rfl, eqx_trans x2 (eqx_sA (by decide)), fun d hd => by rw [sA_idx _ _ hd]; exact y2 d hd, fun r hr => ?_⟩
            rw [sA_same]
            by_cases e3 : r = q
            · subst e3; rw [uA_same, hv]
            · rw [uA_ne _ _ e3]; exact z2 r (by omega)
          ((repeat' (first | ((with_reducible apply wp_let); try dsimp only) | ((with_reducible apply wp_gdJ); (focus (first | ((simp (disch := omega) only [J_lit, J_add, J_sub, J_mul, J_neg, J_n, jle, jlt, jeq, jnn, jnat, Int.toNat_natCast, bJ_0, bJ_1, bft, gd_T, nar_J, nar_0, nar_1, if_true, if_false, Option.bind_some, gd_t, ec, eD, ew, hl.a428 (T.ord k) (by omega)]); rfl) | rfl)); (focus (first | exact True.intro | (first | exact vp_J (by omega) (by omega) (by omega) | omega)))) | ((with_reducible apply wp_ifJT); (focus (first | ((simp (disch := omega) only [J_lit, J_add, J_sub, J_mul, J_neg, J_n, jle, jlt, jeq, jnn, jnat, Int.toNat_natCast, bJ_0, bJ_1, bft, gd_T, nar_J, nar_0, nar_1, if_true, if_false, Option.bind_some, gd_t, decide_eq_false_iff_not, decide_eq_true_eq, ec, eD, ew, hl.a428 (T.ord k) (by omega)]); rfl) | rfl)); (focus (first | exact True.intro | omega))) | ((with_reducible apply wp_ifJF); (focus (first | ((simp (disch := omega) only [J_lit, J_add, J_sub, J_mul, J_neg, J_n, jle, jlt, jeq, jnn, jnat, Int.toNat_natCast, bJ_0, bJ_1, bft, gd_T, nar_J, nar_0, nar_1, if_true, if_false, Option.bind_some, gd_t, decide_eq_false_iff_not, decide_eq_true_eq, ec, eD, ew, hl.a428 (T.ord k) (by omega)]); rfl) | rfl)); (focus (first | exact not_false | omega))) | ((with_reducible apply wp_ifJ); (focus (first | ((simp (disch := omega) only [J_lit, J_add, J_sub, J_mul, J_neg, J_n, jle, jlt, jeq, jnn, jnat, Int.toNat_natCast, bJ_0, bJ_1, bft, gd_T, nar_J, nar_0, nar_1, if_true, if_false, Option.bind_some, gd_t, decide_eq_false_iff_not, decide_eq_true_eq, ec, eD, ew, hl.a428 (T.ord k) (by omega)]); rfl) | rfl)); all_goals intro _) | (with_reducible apply wp_some) | ((with_reducible apply wp_eli); try dsimp only) | ((with_reducible apply wp_elr); try dsimp only) | ((with_reducible apply wp_bindE); (focus ((simp (disch := omega) only [J_lit, J_add, J_sub, J_mul, J_neg, J_n, jle, jlt, jeq, jnn, jnat, Int.toNat_natCast, bJ_0, bJ_1, bft, gd_T, nar_J, nar_0, nar_1, if_true, if_false, Option.bind_some, gd_t, ec, eD, ew, hl.a428 (T.ord k) (by omega)]); rfl)); try dsimp only) | (with_reducible apply wp_bind))); all_goals (try (simp (disch := omega) only [J_lit, J_add, J_sub, J_mul, J_neg, J_n, jle, jlt, jeq, jnn, jnat, Int.toNat_natCast, bJ_0, bJ_1, bft, gd_T, nar_J, nar_0, nar_1, if_true, if_false, Option.bind_some, gd_t, ec, eD, ew, hl.a428 (T.ord k) (by omega)])))
          · rename_i z; exact fin _ (by rw [if_pos z])
          · rename_i z; exact fin _ (by rw [if_neg z])
      obtain ⟨A2, e2, x2, y2, z2⟩ := inner
      unfold mX1_keepWrongs_b2
      ((repeat' (first | ((with_reducible apply wp_let); try dsimp only) | ((with_reducible apply wp_gdJ); (focus (first | ((simp (disch := omega) only [J_lit, J_add, J_sub, J_mul, J_neg, J_n, jle, jlt, jeq, jnn, jnat, Int.toNat_natCast, bJ_0, bJ_1, bft, gd_T, nar_J, nar_0, nar_1, if_true, if_false, Option.bind_some, gd_t, h.ordered, h.order, h.cD hc, (h.ca _ hc).num, e2]); rfl) | rfl)); (focus (first | exact True.intro | (first | exact vp_J (by omega) (by omega) (by omega) | omega)))) | ((with_reducible apply wp_ifJT); (focus (first | ((simp (disch := omega) only [J_lit, J_add, J_sub, J_mul, J_neg, J_n, jle, jlt, jeq, jnn, jnat, Int.toNat_natCast, bJ_0, bJ_1, bft, gd_T, nar_J, nar_0, nar_1, if_true, if_false, Option.bind_some, gd_t, decide_eq_false_iff_not, decide_eq_true_eq, h.ordered, h.order, h.cD hc, (h.ca _ hc).num, e2]); rfl) | rfl)); (focus (first | exact True.intro | omega))) | ((with_reducible apply wp_ifJF); (focus (first | ((simp (disch := omega) only [J_lit, J_add, J_sub, J_mul, J_neg, J_n, jle, jlt, jeq, jnn, jnat, Int.toNat_natCast, bJ_0, bJ_1, bft, gd_T, nar_J, nar_0, nar_1, if_true, if_false, Option.bind_some, gd_t, decide_eq_false_iff_not, decide_eq_true_eq, h.ordered, h.order, h.cD hc, (h.ca _ hc).num, e2]); rfl) | rfl)); (focus (first | exact not_false | omega))) | ((with_reducible apply wp_ifJ); (focus (first | ((simp (disch := omega) only [J_lit, J_add, J_sub, J_mul, J_neg, J_n, jle, jlt, jeq, jnn, jnat, Int.toNat_natCast, bJ_0, bJ_1, bft, gd_T, nar_J, nar_0, nar_1, if_true, if_false, Option.bind_some, gd_t, decide_eq_false_iff_not, decide_eq_true_eq, h.ordered, h.order, h.cD hc, (h.ca _ hc).num, e2]); rfl) | rfl)); all_goals intro _) | (with_reducible apply wp_some) | ((with_reducible apply wp_eli); try dsimp only) | ((with_reducible apply wp_elr); try dsimp only) | ((with_reducible apply wp_bindE); (focus ((simp (disch := omega) only [J_lit, J_add, J_sub, J_mul, J_neg, J_n, jle, jlt, jeq, jnn, jnat, Int.toNat_natCast, bJ_0, bJ_1, bft, gd_T, nar_J, nar_0, nar_1, if_true, if_false, Option.bind_some, gd_t, h.ordered, h.order, h.cD hc, (h.ca _ hc).num, e2]); rfl)); try dsimp only) | (with_reducible apply wp_bind))); all_goals (try (simp (disch := omega) only [J_lit, J_add, J_sub, J_mul, J_neg, J_n, jle, jlt, jeq, jnn, jnat, Int.toNat_natCast, bJ_0, bJ_1, bft, gd_T, nar_J, nar_0, nar_1, if_true, if_false, Option.bind_some, gd_t, h.ordered, h.order, h.cD hc, (h.ca _ hc).num, e2])))
      refine ⟨by omega, A2, rfl, eqx_trans x x2, fun c r hc2 hp hr => ?_⟩
      by_cases e3 : c = T.ord k
      · subst e3; exact z2 r hr
      · have : T.pos c ≠ k := fun z => e3 (by rw [← z, hT.op c hc2])
        rw [y2 c e3]; exact ho c r hc2 (by omega) hr
  obtain ⟨A, e, x, q⟩ := key
  refine ⟨A, wp_eq ?_, x, q⟩
  unfold mX1_keepWrongs
  ((repeat' (first | ((with_reducible apply wp_let); try dsimp only) | ((with_reducible apply wp_gdJ); (focus (first | ((simp (disch := omega) only [J_lit, J_add, J_sub, J_mul, J_neg, J_n, jle, jlt, jeq, jnn, jnat, Int.toNat_natCast, bJ_0, bJ_1, bft, gd_T, nar_J, nar_0, nar_1, if_true, if_false, Option.bind_some, gd_t, e]); rfl) | rfl)); (focus (first | exact True.intro | (first | exact vp_J (by omega) (by omega) (by omega) | omega)))) | ((with_reducible apply wp_ifJT); (focus (first | ((simp (disch := omega) only [J_lit, J_add, J_sub, J_mul, J_neg, J_n, jle, jlt, jeq, jnn, jnat, Int.toNat_natCast, bJ_0, bJ_1, bft, gd_T, nar_J, nar_0, nar_1, if_true, if_false, Option.bind_some, gd_t, decide_eq_false_iff_not, decide_eq_true_eq, e]); rfl) | rfl)); (focus (first | exact True.intro | omega))) | ((with_reducible apply wp_ifJF); (focus (first | ((simp (disch := omega) only [J_lit, J_add, J_sub, J_mul, J_neg, J_n, jle, jlt, jeq, jnn, jnat, Int.toNat_natCast, bJ_0, bJ_1, bft, gd_T, nar_J, nar_0, nar_1, if_true, if_false, Option.bind_some, gd_t, decide_eq_false_iff_not, decide_eq_true_eq, e]); rfl) | rfl)); (focus (first | exact not_false | omega))) | ((with_reducible apply wp_ifJ); (focus (first | ((simp (disch := omega) only [J_lit, J_add, J_sub, J_mul, J_neg, J_n, jle, jlt, jeq, jnn, jnat, Int.toNat_natCast, bJ_0, bJ_1, bft, gd_T, nar_J, nar_0, nar_1, if_true, if_false, Option.bind_some, gd_t, decide_eq_false_iff_not, decide_eq_true_eq, e]); rfl) | rfl)); all_goals intro _) | (with_reducible apply wp_some) | ((with_reducible apply wp_eli); try dsimp only) | ((with_reducible apply wp_elr); try dsimp only) | ((with_reducible apply wp_bindE); (focus ((simp (disch := omega) only [J_lit, J_add, J_sub, J_mul, J_neg, J_n, jle, jlt, jeq, jnn, jnat, Int.toNat_natCast, bJ_0, bJ_1, bft, gd_T, nar_J, nar_0, nar_1, if_true, if_false, Option.bind_some, gd_t, e]); rfl)); try dsimp only) | (with_reducible apply wp_bind))); all_goals (try (simp (disch := omega) only [J_lit, J_add, J_sub, J_mul, J_neg, J_n, jle, jlt, jeq, jnn, jnat, Int.toNat_natCast, bJ_0, bJ_1, bft, gd_T, nar_J, nar_0, nar_1, if_true, if_false, Option.bind_some, gd_t, e])))
theorem isNew_eq {T2 : PTb} {w had : Int32} {s c r : Nat} (hr : r < T2.nr c) (hr8 : r < 8) (enr : T.nr c = T2.nr c) (hc : T2.cast c r = (s : Int)) (hw : ∀ j, j < 32 → bt w j = T2.wbit c r j) {w0 : Int32} (hw0 : ∀ j, j < 32 → bt w0 j = T.wbit c r j) (hh : had = if T.cast c r = (s : Int) then w0 &&& J 64768 else J 0) :
    ((w &&& J 64768) &&& (had ^^^ J (-1)) = J 0) ↔ (anyN 8 fun k => T2.val s (8 + k) c r && !T.val s (8 + k) c r) = false := by
  rw [← Bool.not_eq_true, anyN_iff, bt_eq0]
  have hhb : ∀ j, j < 32 → bt had j = (decide (T.cast c r = (s : Int)) && (T.wbit c r j && bt (J 64768) j)) := by
    intro j hj
    rw [hh]
    by_cases e : T.cast c r = (s : Int)
    · rw [if_pos e, bt_and, hw0 j hj]; simp [e]
    · rw [if_neg e, bt_0]; simp [e]
  have hb : ∀ j, j < 32 → bt ((w &&& J 64768) &&& (had ^^^ J (-1))) j = ((T2.wbit c r j && (decide (8 ≤ j ∧ j ≤ 15) && j != 9)) && !(decide (T.cast c r = (s : Int)) && (T.wbit c r j && (decide (8 ≤ j ∧ j ≤ 15) && j != 9)))) := by
    intro j hj
    rw [bt_and, bt_and, bt_xor, bt_m1 hj, hw j hj, hhb j hj, ones_bt ⟨j, hj⟩, Bool.xor_true]
  have hv2 : ∀ k, k < 8 → T2.wbit c r (8 + k) = T2.wr (8 + k) s c r := fun k hk => by
    unfold PTb.wbit PTb.rbit PTb.isW
    rw [if_neg (by omega), if_neg (by omega), hc]
    simp [hr]; omega
  have hv1 : ∀ k, k < 8 → T.cast c r = (s : Int) → T.wbit c r (8 + k) = T.wr (8 + k) s c r := fun k hk h1 => by
    unfold PTb.wbit PTb.rbit PTb.isW
    rw [if_neg (by omega), if_neg (by omega), h1]
    simp [enr, hr]; omega
  constructor
  · rintro h ⟨k, hk, hv⟩
    have h1 := h (8 + k) (by omega)
    rw [hb (8 + k) (by omega), hv2 k hk] at h1
    simp only [PTb.val, Bool.and_eq_true, Bool.not_eq_true'] at hv
    obtain ⟨⟨⟨_, q2⟩, q3⟩, q4⟩ := hv
    rw [q3, q2, decide_eq_true (by omega : 8 ≤ 8 + k ∧ 8 + k ≤ 15)] at h1
    by_cases e : T.cast c r = (s : Int)
    · rw [hv1 k hk e] at h1
      rw [e, q2] at q4
      simp at q4 h1
      rw [q4] at h1
      simp at h1
    · simp [e] at h1
  · intro h j hj
    rw [hb j hj]
    by_cases e8 : 8 ≤ j ∧ j ≤ 15
    · obtain ⟨k, rfl⟩ : ∃ k, j = 8 + k := ⟨j - 8, by omega⟩
      have h1 : ¬ ((T2.val s (8 + k) c r && !T.val s (8 + k) c r) = true) := fun q => h ⟨k, by omega, q⟩
      rw [hv2 k (by omega), decide_eq_true e8]
      unfold PTb.val at h1
      rw [hc] at h1
      by_cases e : T.cast c r = (s : Int)
      · rw [hv1 k (by omega) e]
        rw [e] at h1
        generalize T2.wr (8 + k) s c r = b1 at *
        generalize T.wr (8 + k) s c r = b2 at *
        generalize (8 + k != 9) = b3 at *
        revert h1
        rw [decide_eq_true e]
        cases b1 <;> cases b2 <;> cases b3 <;> simp
      · have e' : (T.cast c r == (s : Int)) = false := by rw [beq_eq_false_iff_ne]; exact e
        rw [e'] at h1
        generalize T2.wr (8 + k) s c r = b1 at *
        generalize (8 + k != 9) = b3 at *
        revert h1
        rw [decide_eq_false e]
        cases b1 <;> cases b3 <;> simp
    · rw [decide_eq_false e8]; simp
end
end
