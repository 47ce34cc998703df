noncomputable section
set_option linter.unusedVariables false
set_option linter.unusedSimpArgs false
/-! PLAIN 55: the house judges -/
def blG (f : Nat → Bool) (c r : Nat) : OhI → List Nat → OhI
  | A, [] => A
  | A, k :: L => blG f c r (bl A c r k (f k)) L
theorem blG_c {f : Nat → Bool} {c r k : Nat} {b : Bool} {A : OhI} {L : List Nat} (w : f k = b) : blG f c r (bl A c r k b) L = blG f c r A (k :: L) := by subst w; rfl
theorem blG_x {f : Nat → Bool} {c r : Nat} : ∀ {L : List Nat} {A : OhI}, eqx [422] A (blG f c r A L)
  | [], A => eqx_refl
  | k :: L, A => eqx_trans bl_x blG_x
theorem blG_bt {f : Nat → Bool} {c r : Nat} {d q j : Nat} (hj : j < 32) : ∀ {L : List Nat} {A : OhI}, (∀ k ∈ L, k < 32) → bt (blG f c r A L 422 d q) j = (bt (A 422 d q) j || (decide (d = c ∧ q = r ∧ j ∈ L) && f j))
  | [], A, _ => by simp [blG]
  | k :: L, A, h => by
    rw [blG, blG_bt hj (fun k hk => h k (List.mem_cons_of_mem _ hk)), bl_bt (h k (by simp)) hj, Bool.or_assoc]
    congr 1
    by_cases e : j = k
    · subst e
      by_cases e1 : d = c <;> by_cases e2 : q = r <;> simp [e1, e2]
    · by_cases e1 : d = c <;> by_cases e2 : q = r <;> by_cases e3 : j ∈ L <;> simp [e1, e2, e3, e]
theorem rollN_kind (T : PTb) {β : Type} (W : PWg β) : ∀ k c, (T.rollN W k).2.2 c = true → 2 ≤ (T.ca c).kind
  | 0, c, h => by simp [PTb.rollN] at h
  | k + 1, c, h => by
    by_cases e : c = T.ord k
    · subst e
      simp only [PTb.rollN] at h
      split at h
      · simp [setB] at h
      · omega
    · refine rollN_kind T W k c ?_
      simp only [PTb.rollN] at h
      split at h <;> simpa [setB, e] using h
theorem bad_kind (T : PTb) (c : Nat) : T.wc T.bad 2 c = T.bad c := by
  cases h : T.bad c with
  | false => simp [PTb.wc, h]
  | true => have := rollN_kind T WM T.all c h; simp [PTb.wc, h, this]
section
variable {T : PTb} {Z : PZ} {FI : OhI} {FR GR : OhQ} {AI : OhI} {AR BR : OhQ} {AN : OhN} {n : Nat}
variable {k : Nat}
theorem jd_roles (h : HTb T Z FI FR GR AI BR AN) (hT : PTbOk T) (hn : 10000 ≤ n) (hk : k < T.all) :
    ∃ A, lpF (fun v : Int32 × OhI => mX1_judge_b161 n FI FR GR v.2 AR BR AN (J k) (some (Z.c (T.ord k))) v.1) n (J 0, AI) = some A ∧ eqx [422] AI A ∧ ∀ d q j, j < 32 → bt (A 422 d q) j = (bt (AI 422 d q) j || (decide (d = T.ord k ∧ q < T.nr (T.ord k)) && T.rbit (T.ord k) q j)) := by
  have hc := hT.ord k hk
  have hb := hT.b hc
  have h66 := hT.all
  have hS := hT.S.nS
  have key : wp (lpF (fun v : Int32 × OhI => mX1_judge_b161 n FI FR GR v.2 AR BR AN (J k) (some (Z.c (T.ord k))) v.1) n (J 0, AI)) (fun A => eqx [422] AI A ∧ ∀ d q j, j < 32 → bt (A 422 d q) j = (bt (AI 422 d q) j || (decide (d = T.ord k ∧ q < T.nr (T.ord k)) && T.rbit (T.ord k) q j))) := by
    refine wp_for (T.nr (T.ord k)) (fun r a => ∃ A, a = (J (r : Int), A) ∧ eqx [422] AI A ∧ ∀ d q j, j < 32 → bt (A 422 d q) j = (bt (AI 422 d q) j || (decide (d = T.ord k ∧ q < r) && T.rbit (T.ord k) q j))) ?_ (k0 := 0) ⟨AI, rfl, eqx_refl, fun d q j hj => by simp⟩ (by omega) (by omega)
    rintro r a hr ⟨A, rfl, x, hbt⟩
    have hA := h.eqx_ x (by decide)
    dsimp only
    unfold mX1_judge_b161 mX1_judge_j198
    by_cases e : r = T.nr (T.ord k)
    · subst e
      ((repeat' (first | ((with_reducible apply wp_let); try dsimp only) | ((with_reducible apply wp_gdJ); (focus (first | ((simp (disch := omega) only [J_lit, J_add, J_sub, J_mul, J_neg, J_n, jle, jlt, jeq, jnn, jnat, Int.toNat_natCast, bJ_0, bJ_1, bft, gd_T, nar_J, nar_0, nar_1, if_true, if_false, Option.bind_some, gd_t, h.cD hc, h_roles h hT hc]); rfl) | rfl)); (focus (first | exact True.intro | (first | exact vp_J (by omega) (by omega) (by omega) | omega)))) | ((with_reducible apply wp_ifJT); (focus (first | ((simp (disch := omega) only [J_lit, J_add, J_sub, J_mul, J_neg, J_n, jle, jlt, jeq, jnn, jnat, Int.toNat_natCast, bJ_0, bJ_1, bft, gd_T, nar_J, nar_0, nar_1, if_true, if_false, Option.bind_some, gd_t, decide_eq_false_iff_not, decide_eq_true_eq, h.cD hc, h_roles h hT hc]); rfl) | rfl)); (focus (first | exact True.intro | omega))) | ((with_reducible apply wp_ifJF); (focus (first | ((simp (disch := omega) only [J_lit, J_add, J_sub, J_mul, J_neg, J_n, jle, jlt, jeq, jnn, jnat, Int.toNat_natCast, bJ_0, bJ_1, bft, gd_T, nar_J, nar_0, nar_1, if_true, if_false, Option.bind_some, gd_t, decide_eq_false_iff_not, decide_eq_true_eq, h.cD hc, h_roles h hT hc]); rfl) | rfl)); (focus (first | exact not_false | omega))) | ((with_reducible apply wp_ifJ); (focus (first | ((simp (disch := omega) only [J_lit, J_add, J_sub, J_mul, J_neg, J_n, jle, jlt, jeq, jnn, jnat, Int.toNat_natCast, bJ_0, bJ_1, bft, gd_T, nar_J, nar_0, nar_1, if_true, if_false, Option.bind_some, gd_t, decide_eq_false_iff_not, decide_eq_true_eq, h.cD hc, h_roles h hT hc]); rfl) | rfl)); all_goals intro _) | (with_reducible apply wp_some) | ((with_reducible apply wp_eli); try dsimp only) | ((with_reducible apply wp_elr); try dsimp only) | ((with_reducible apply wp_bindE); (focus ((simp (disch := omega) only [J_lit, J_add, J_sub, J_mul, J_neg, J_n, jle, jlt, jeq, jnn, jnat, Int.toNat_natCast, bJ_0, bJ_1, bft, gd_T, nar_J, nar_0, nar_1, if_true, if_false, Option.bind_some, gd_t, h.cD hc, h_roles h hT hc]); rfl)); try dsimp only) | (with_reducible apply wp_bind))); all_goals (try (simp (disch := omega) only [J_lit, J_add, J_sub, J_mul, J_neg, J_n, jle, jlt, jeq, jnn, jnat, Int.toNat_natCast, bJ_0, bJ_1, bft, gd_T, nar_J, nar_0, nar_1, if_true, if_false, Option.bind_some, gd_t, h.cD hc, h_roles h hT hc])))
      exact ⟨x, hbt⟩
    · have ecast := hA.cast (T.ord k) r hc (by omega)
      have hcb := hT.cast (T.ord k) r hc (by omega)
      have e0 : mX1_blame FI FR A AR BR AN (some (Z.c (T.ord k))) (J r) (J 7) (J 0) = _ := h_bl (AR := AR) (k := 7) hA false hc h66 (by omega : r < 9)
      have e1 : mX1_blame FI FR A AR BR AN (some (Z.c (T.ord k))) (J r) (J 7) (J 1) = _ := h_bl (AR := AR) (k := 7) hA true hc h66 (by omega : r < 9)
      ((repeat' (first | ((with_reducible apply wp_let); try dsimp only) | ((with_reducible apply wp_gdJ); (focus (first | ((simp (disch := omega) only [J_lit, J_add, J_sub, J_mul, J_neg, J_n, jle, jlt, jeq, jnn, jnat, Int.toNat_natCast, bJ_0, bJ_1, bft, gd_T, nar_J, nar_0, nar_1, if_true, if_false, Option.bind_some, gd_t, h.cD hc, h_roles h hT hc, (h.ca _ hc).num, ecast, e0, e1]); rfl) | rfl)); (focus (first | exact True.intro | (first | exact vp_J (by omega) (by omega) (by omega) | omega)))) | ((with_reducible apply wp_ifJT); (focus (first | ((simp (disch := omega) only [J_lit, J_add, J_sub, J_mul, J_neg, J_n, jle, jlt, jeq, jnn, jnat, Int.toNat_natCast, bJ_0, bJ_1, bft, gd_T, nar_J, nar_0, nar_1, if_true, if_false, Option.bind_some, gd_t, decide_eq_false_iff_not, decide_eq_true_eq, h.cD hc, h_roles h hT hc, (h.ca _ hc).num, ecast, e0, e1]); rfl) | rfl)); (focus (first | exact True.intro | omega))) | ((with_reducible apply wp_ifJF); (focus (first | ((simp (disch := omega) only [J_lit, J_add, J_sub, J_mul, J_neg, J_n, jle, jlt, jeq, jnn, jnat, Int.toNat_natCast, bJ_0, bJ_1, bft, gd_T, nar_J, nar_0, nar_1, if_true, if_false, Option.bind_some, gd_t, decide_eq_false_iff_not, decide_eq_true_eq, h.cD hc, h_roles h hT hc, (h.ca _ hc).num, ecast, e0, e1]); rfl) | rfl)); (focus (first | exact not_false | omega))) | ((with_reducible apply wp_ifJ); (focus (first | ((simp (disch := omega) only [J_lit, J_add, J_sub, J_mul, J_neg, J_n, jle, jlt, jeq, jnn, jnat, Int.toNat_natCast, bJ_0, bJ_1, bft, gd_T, nar_J, nar_0, nar_1, if_true, if_false, Option.bind_some, gd_t, decide_eq_false_iff_not, decide_eq_true_eq, h.cD hc, h_roles h hT hc, (h.ca _ hc).num, ecast, e0, e1]); rfl) | rfl)); all_goals intro _) | (with_reducible apply wp_some) | ((with_reducible apply wp_eli); try dsimp only) | ((with_reducible apply wp_elr); try dsimp only) | ((with_reducible apply wp_bindE); (focus ((simp (disch := omega) only [J_lit, J_add, J_sub, J_mul, J_neg, J_n, jle, jlt, jeq, jnn, jnat, Int.toNat_natCast, bJ_0, bJ_1, bft, gd_T, nar_J, nar_0, nar_1, if_true, if_false, Option.bind_some, gd_t, h.cD hc, h_roles h hT hc, (h.ca _ hc).num, ecast, e0, e1]); rfl)); try dsimp only) | (with_reducible apply wp_bind))); all_goals (try (simp (disch := omega) only [J_lit, J_add, J_sub, J_mul, J_neg, J_n, jle, jlt, jeq, jnn, jnat, Int.toNat_natCast, bJ_0, bJ_1, bft, gd_T, nar_J, nar_0, nar_1, if_true, if_false, Option.bind_some, gd_t, h.cD hc, h_roles h hT hc, (h.ca _ hc).num, ecast, e0, e1])))
      · rename_i z
        refine ⟨by omega, _, rfl, eqx_trans x bl_x, fun d q j hj => ?_⟩
        rw [bl_bt (by omega) hj, hbt d q j hj, Bool.or_assoc]
        congr 1
        by_cases e1 : d = T.ord k
        · by_cases e2 : q = r
          · subst e2
            have : T.rbit (T.ord k) q j = decide (j = 7) := by
              unfold PTb.rbit PTb.isW
              by_cases e3 : j = 7
              · subst e3; simp; omega
              · rw [if_neg e3]; simp [e3]; omega
            simp [e1, this]
          · have : (q < r + 1) = (q < r) := by apply propext; omega
            simp [e2, this]
        · simp [e1]
      · rename_i z
        obtain ⟨s, es⟩ : ∃ s : Nat, T.cast (T.ord k) r = (s : Int) := ⟨(T.cast (T.ord k) r).toNat, by omega⟩
        have hs : s < T.S.nS := by omega
        have hA2 := hA.bl_ (c := T.ord k) (r := r) (k := 7) (b := false)
        have e3 := h_get (AR := AR) h.sgL hs (by omega)
        have e4 := h_judgeRole (n := n) (AR := AR) hA2 hT hn hs hk (by omega : r < T.nr (T.ord k))
        rw [es, e3]
        refine wp_some ?_
        ((repeat' (first | ((with_reducible apply wp_let); try dsimp only) | ((with_reducible apply wp_gdJ); (focus (first | ((simp (disch := omega) only [J_lit, J_add, J_sub, J_mul, J_neg, J_n, jle, jlt, jeq, jnn, jnat, Int.toNat_natCast, bJ_0, bJ_1, bft, gd_T, nar_J, nar_0, nar_1, if_true, if_false, Option.bind_some, gd_t, h.sD hs, e4]); rfl) | rfl)); (focus (first | exact True.intro | (first | exact vp_J (by omega) (by omega) (by omega) | omega)))) | ((with_reducible apply wp_ifJT); (focus (first | ((simp (disch := omega) only [J_lit, J_add, J_sub, J_mul, J_neg, J_n, jle, jlt, jeq, jnn, jnat, Int.toNat_natCast, bJ_0, bJ_1, bft, gd_T, nar_J, nar_0, nar_1, if_true, if_false, Option.bind_some, gd_t, decide_eq_false_iff_not, decide_eq_true_eq, h.sD hs, e4]); rfl) | rfl)); (focus (first | exact True.intro | omega))) | ((with_reducible apply wp_ifJF); (focus (first | ((simp (disch := omega) only [J_lit, J_add, J_sub, J_mul, J_neg, J_n, jle, jlt, jeq, jnn, jnat, Int.toNat_natCast, bJ_0, bJ_1, bft, gd_T, nar_J, nar_0, nar_1, if_true, if_false, Option.bind_some, gd_t, decide_eq_false_iff_not, decide_eq_true_eq, h.sD hs, e4]); rfl) | rfl)); (focus (first | exact not_false | omega))) | ((with_reducible apply wp_ifJ); (focus (first | ((simp (disch := omega) only [J_lit, J_add, J_sub, J_mul, J_neg, J_n, jle, jlt, jeq, jnn, jnat, Int.toNat_natCast, bJ_0, bJ_1, bft, gd_T, nar_J, nar_0, nar_1, if_true, if_false, Option.bind_some, gd_t, decide_eq_false_iff_not, decide_eq_true_eq, h.sD hs, e4]); rfl) | rfl)); all_goals intro _) | (with_reducible apply wp_some) | ((with_reducible apply wp_eli); try dsimp only) | ((with_reducible apply wp_elr); try dsimp only) | ((with_reducible apply wp_bindE); (focus ((simp (disch := omega) only [J_lit, J_add, J_sub, J_mul, J_neg, J_n, jle, jlt, jeq, jnn, jnat, Int.toNat_natCast, bJ_0, bJ_1, bft, gd_T, nar_J, nar_0, nar_1, if_true, if_false, Option.bind_some, gd_t, h.sD hs, e4]); rfl)); try dsimp only) | (with_reducible apply wp_bind))); all_goals (try (simp (disch := omega) only [J_lit, J_add, J_sub, J_mul, J_neg, J_n, jle, jlt, jeq, jnn, jnat, Int.toNat_natCast, bJ_0, bJ_1, bft, gd_T, nar_J, nar_0, nar_1, if_true, if_false, Option.bind_some, gd_t, h.sD hs, e4])))
        refine ⟨by omega, _, rfl, eqx_trans x (eqx_trans bl_x blF_x), fun d q j hj => ?_⟩
        rw [blF_bt hj (by decide), bl_bt (by omega) hj, hbt d q j hj, Bool.and_false, Bool.or_false, Bool.or_assoc]
        congr 1
        by_cases ed : d = T.ord k
        · by_cases e2 : q = r
          · subst e2
            have : T.rbit (T.ord k) q j = (decide (j ∈ [8, 9, 10, 11, 12, 13, 14, 15]) && T.wr j s (T.ord k) q) := by
              unfold PTb.rbit PTb.isW
              by_cases e3 : j = 7
              · subst e3; rw [es]; simp
              · rw [if_neg e3, es]
                have : (7 ≤ j ∧ j ≤ 15) = (j ∈ [8, 9, 10, 11, 12, 13, 14, 15]) := by apply propext; simp; omega
                simp only [this]; simp
            subst ed
            rw [this]
            cases T.wr j s (T.ord k) q <;> simp
          · have : (q < r + 1) = (q < r) := by apply propext; omega
            simp [e2, this]
        · simp [ed]
  obtain ⟨A, e, x, q⟩ := key
  exact ⟨A, e, x, q⟩
/-- what stands behind a call's own wrongs -/
def jdF (T : PTb) (k : Nat) (B A : OhI) : Prop := eqx [422] B A ∧ ∀ d q j, j < 32 → bt (A 422 d q) j = (bt (B 422 d q) j || (decide (d = T.ord k ∧ q < T.nr (T.ord k)) && T.rbit (T.ord k) q j))
def jdQ (T : PTb) (k : Nat) (B : OhI) (v : (Int32 × OhI) ⊕ OhI) : Prop := ∃ A, v = .inl (J ((k : Int) + 1), A) ∧ jdF T k B A
def PTb.wcF (T : PTb) (c j : Nat) : Bool := T.wc T.bad j c
theorem jd6 (h : HTb T Z FI FR GR AI BR AN) (hT : PTbOk T) (hn : 10000 ≤ n) (hk : k < T.all) (b : Bool) :
    wp (mX1_judge_j156 n FI FR GR AI AR BR AN (J k) (some (Z.c (T.ord k))) (some (Z.c (T.ord k))) (J 8) (J 6) (bJ b)) (jdQ T k (bl AI (T.ord k) 8 6 b)) := by
  have hc := hT.ord k hk
  have e0 : mX1_blame FI FR AI AR BR AN (some (Z.c (T.ord k))) (J 8) (J 6) (bJ b) = _ := h_bl (AR := AR) (r := 8) (k := 6) h b hc hT.all (by omega)
  obtain ⟨A, e1, x, y⟩ := jd_roles (n := n) (AR := AR) (h.bl_ (c := T.ord k) (r := 8) (k := 6) (b := b)) hT hn hk
  have h66 := hT.all
  unfold mX1_judge_j156
  ((repeat' (first | ((with_reducible apply wp_let); try dsimp only) | ((with_reducible apply wp_gdJ); (focus (first | ((simp (disch := omega) only [J_lit, J_add, J_sub, J_mul, J_neg, J_n, jle, jlt, jeq, jnn, jnat, Int.toNat_natCast, bJ_0, bJ_1, bft, gd_T, nar_J, nar_0, nar_1, if_true, if_false, Option.bind_some, gd_t, e0, e1]); rfl) | rfl)); (focus (first | exact True.intro | (first | exact vp_J (by omega) (by omega) (by omega) | omega)))) | ((with_reducible apply wp_ifJT); (focus (first | ((simp (disch := omega) only [J_lit, J_add, J_sub, J_mul, J_neg, J_n, jle, jlt, jeq, jnn, jnat, Int.toNat_natCast, bJ_0, bJ_1, bft, gd_T, nar_J, nar_0, nar_1, if_true, if_false, Option.bind_some, gd_t, decide_eq_false_iff_not, decide_eq_true_eq, e0, e1]); rfl) | rfl)); (focus (first | exact True.intro | omega))) | ((with_reducible apply wp_ifJF); (focus (first | ((simp (disch := omega) only [J_lit, J_add, J_sub, J_mul, J_neg, J_n, jle, jlt, jeq, jnn, jnat, Int.toNat_natCast, bJ_0, bJ_1, bft, gd_T, nar_J, nar_0, nar_1, if_true, if_false, Option.bind_some, gd_t, decide_eq_false_iff_not, decide_eq_true_eq, e0, e1]); rfl) | rfl)); (focus (first | exact not_false | omega))) | ((with_reducible apply wp_ifJ); (focus (first | ((simp (disch := omega) only [J_lit, J_add, J_sub, J_mul, J_neg, J_n, jle, jlt, jeq, jnn, jnat, Int.toNat_natCast, bJ_0, bJ_1, bft, gd_T, nar_J, nar_0, nar_1, if_true, if_false, Option.bind_some, gd_t, decide_eq_false_iff_not, decide_eq_true_eq, e0, e1]); rfl) | rfl)); all_goals intro _) | (with_reducible apply wp_some) | ((with_reducible apply wp_eli); try dsimp only) | ((with_reducible apply wp_elr); try dsimp only) | ((with_reducible apply wp_bindE); (focus ((simp (disch := omega) only [J_lit, J_add, J_sub, J_mul, J_neg, J_n, jle, jlt, jeq, jnn, jnat, Int.toNat_natCast, bJ_0, bJ_1, bft, gd_T, nar_J, nar_0, nar_1, if_true, if_false, Option.bind_some, gd_t, e0, e1]); rfl)); try dsimp only) | (with_reducible apply wp_bind))); all_goals (try (simp (disch := omega) only [J_lit, J_add, J_sub, J_mul, J_neg, J_n, jle, jlt, jeq, jnn, jnat, Int.toNat_natCast, bJ_0, bJ_1, bft, gd_T, nar_J, nar_0, nar_1, if_true, if_false, Option.bind_some, gd_t, e0, e1])))
  exact ⟨A, rfl, x, y⟩
theorem jd4 (h : HTb T Z FI FR GR AI BR AN) (hT : PTbOk T) (hn : 10000 ≤ n) (hk : k < T.all) (b : Bool) :
    wp (mX1_judge_j114 n FI FR GR AI AR BR AN (J k) (some (Z.c (T.ord k))) (some (Z.c (T.ord k))) (J 8) (J 4) (bJ b)) (jdQ T k (blG (T.wcF (T.ord k)) (T.ord k) 8 (bl AI (T.ord k) 8 4 b) [5, 6])) := by
  have hc := hT.ord k hk
  have hb := hT.b hc
  have h66 := hT.all
  have e0 : mX1_blame FI FR AI AR BR AN (some (Z.c (T.ord k))) (J 8) (J 4) (bJ b) = _ := h_bl (AR := AR) (r := 8) (k := 4) h b hc hT.all (by omega)
  have h2 := h.bl_ (c := T.ord k) (r := 8) (k := 4) (b := b)
  generalize bl AI (T.ord k) 8 4 b = A2 at e0 h2
  have e1 := h_isPlaying (n := n) (AR := AR) h hT hn hk
  have e2 : mX1_blame FI FR A2 AR BR AN (some (Z.c (T.ord k))) (J 8) (J 5) (bJ (T.plays (T.ord k))) = _ := h_bl (AR := AR) (r := 8) (k := 5) h2 (T.plays (T.ord k)) hc hT.all (by omega)
  have h3 := h2.bl_ (c := T.ord k) (r := 8) (k := 5) (b := T.plays (T.ord k))
  rw [← blG_c (L := [6]) (show T.wcF (T.ord k) 5 = T.plays (T.ord k) by simp [PTb.wcF, PTb.wc])]
  generalize bl A2 (T.ord k) 8 5 (T.plays (T.ord k)) = A3 at e2 h3
  have e3 := h_isChorusOver (n := n) (AR := AR) h hT hn hk
  have f0 : wp (mX1_judge_j156 n FI FR GR A3 AR BR AN (J k) (some (Z.c (T.ord k))) (some (Z.c (T.ord k))) (J 8) (J 6) (J 0)) _ := jd6 (n := n) (AR := AR) h3 hT hn hk false
  have f1 : wp (mX1_judge_j156 n FI FR GR A3 AR BR AN (J k) (some (Z.c (T.ord k))) (some (Z.c (T.ord k))) (J 8) (J 6) (J 1)) _ := jd6 (n := n) (AR := AR) h3 hT hn hk true
  have w : T.wcF (T.ord k) 6 = (T.hasCh (T.ord k) && decide (T.S.daily < T.chDay (T.ord k) (k + 1) ∨ T.S.weekly < T.chWeek (T.ord k) (k + 1))) := by simp [PTb.wcF, PTb.wc, PTb.chOver, hT.po k hk]
  have g : ∀ b, T.wcF (T.ord k) 6 = b → blG (T.wcF (T.ord k)) (T.ord k) 8 A3 [6] = bl A3 (T.ord k) 8 6 b := fun b hb => (blG_c (L := []) hb).symm
  unfold mX1_judge_j114 mX1_judge_j155
  ((repeat' (first | ((with_reducible apply wp_let); try dsimp only) | ((with_reducible apply wp_gdJ); (focus (first | ((simp (disch := omega) only [J_lit, J_add, J_sub, J_mul, J_neg, J_n, jle, jlt, jeq, jnn, jnat, Int.toNat_natCast, bJ_0, bJ_1, bft, gd_T, nar_J, nar_0, nar_1, if_true, if_false, Option.bind_some, gd_t, e0, e1, e2, h.cD hc, h_hasCh h hT hc, e3]); rfl) | rfl)); (focus (first | exact True.intro | (first | exact vp_J (by omega) (by omega) (by omega) | omega)))) | ((with_reducible apply wp_ifJT); (focus (first | ((simp (disch := omega) only [J_lit, J_add, J_sub, J_mul, J_neg, J_n, jle, jlt, jeq, jnn, jnat, Int.toNat_natCast, bJ_0, bJ_1, bft, gd_T, nar_J, nar_0, nar_1, if_true, if_false, Option.bind_some, gd_t, decide_eq_false_iff_not, decide_eq_true_eq, e0, e1, e2, h.cD hc, h_hasCh h hT hc, e3]); rfl) | rfl)); (focus (first | exact True.intro | omega))) | ((with_reducible apply wp_ifJF); (focus (first | ((simp (disch := omega) only [J_lit, J_add, J_sub, J_mul, J_neg, J_n, jle, jlt, jeq, jnn, jnat, Int.toNat_natCast, bJ_0, bJ_1, bft, gd_T, nar_J, nar_0, nar_1, if_true, if_false, Option.bind_some, gd_t, decide_eq_false_iff_not, decide_eq_true_eq, e0, e1, e2, h.cD hc, h_hasCh h hT hc, e3]); rfl) | rfl)); (focus (first | exact not_false | omega))) | ((with_reducible apply wp_ifJ); (focus (first | ((simp (disch := omega) only [J_lit, J_add, J_sub, J_mul, J_neg, J_n, jle, jlt, jeq, jnn, jnat, Int.toNat_natCast, bJ_0, bJ_1, bft, gd_T, nar_J, nar_0, nar_1, if_true, if_false, Option.bind_some, gd_t, decide_eq_false_iff_not, decide_eq_true_eq, e0, e1, e2, h.cD hc, h_hasCh h hT hc, e3]); rfl) | rfl)); all_goals intro _) | (with_reducible apply wp_some) | ((with_reducible apply wp_eli); try dsimp only) | ((with_reducible apply wp_elr); try dsimp only) | ((with_reducible apply wp_bindE); (focus ((simp (disch := omega) only [J_lit, J_add, J_sub, J_mul, J_neg, J_n, jle, jlt, jeq, jnn, jnat, Int.toNat_natCast, bJ_0, bJ_1, bft, gd_T, nar_J, nar_0, nar_1, if_true, if_false, Option.bind_some, gd_t, e0, e1, e2, h.cD hc, h_hasCh h hT hc, e3]); rfl)); try dsimp only) | (with_reducible apply wp_bind))); all_goals (try (simp (disch := omega) only [J_lit, J_add, J_sub, J_mul, J_neg, J_n, jle, jlt, jeq, jnn, jnat, Int.toNat_natCast, bJ_0, bJ_1, bft, gd_T, nar_J, nar_0, nar_1, if_true, if_false, Option.bind_some, gd_t, e0, e1, e2, h.cD hc, h_hasCh h hT hc, e3])))
  · rename_i z; rw [g false (by rw [w, z]; rfl)]; exact f0
  · rename_i z1 z2; rw [g false (by rw [w, decide_eq_false z2, Bool.and_false])]; exact f0
  · rename_i z1 z2; rw [Bool.not_eq_false] at z1; rw [g true (by rw [w, z1, decide_eq_true (Decidable.not_not.mp z2)]; rfl)]; exact f1
theorem jd3 (h : HTb T Z FI FR GR AI BR AN) (hT : PTbOk T) (hn : 10000 ≤ n) (hk : k < T.all) (b : Bool) :
    wp (mX1_judge_j86 n FI FR GR AI AR BR AN (J k) (some (Z.c (T.ord k))) (some (Z.c (T.ord k))) (J 8) (J 3) (bJ b)) (jdQ T k (blG (T.wcF (T.ord k)) (T.ord k) 8 (bl AI (T.ord k) 8 3 b) [4, 5, 6])) := by
  have hc := hT.ord k hk
  have hb := hT.b hc
  have h66 := hT.all
  have e0 : mX1_blame FI FR AI AR BR AN (some (Z.c (T.ord k))) (J 8) (J 3) (bJ b) = _ := h_bl (AR := AR) (r := 8) (k := 3) h b hc hT.all (by omega)
  have h2 := h.bl_ (c := T.ord k) (r := 8) (k := 3) (b := b)
  generalize bl AI (T.ord k) 8 3 b = A2 at e0 h2
  have e3 := h_lacks (n := n) h2 hT hn hc
  have f0 : wp (mX1_judge_j114 n FI FR GR A2 AR BR AN (J k) (some (Z.c (T.ord k))) (some (Z.c (T.ord k))) (J 8) (J 4) (J 0)) _ := jd4 (n := n) (AR := AR) h2 hT hn hk false
  have f1 : wp (mX1_judge_j114 n FI FR GR A2 AR BR AN (J k) (some (Z.c (T.ord k))) (some (Z.c (T.ord k))) (J 8) (J 4) (J 1)) _ := jd4 (n := n) (AR := AR) h2 hT hn hk true
  have w : T.wcF (T.ord k) 4 = T.lacks (T.ord k) := by simp [PTb.wcF, PTb.wc]
  unfold PTb.lacks at w
  have g : ∀ b, T.wcF (T.ord k) 4 = b → blG (T.wcF (T.ord k)) (T.ord k) 8 A2 [4, 5, 6] = blG (T.wcF (T.ord k)) (T.ord k) 8 (bl A2 (T.ord k) 8 4 b) [5, 6] := fun b hb => (blG_c hb).symm
  unfold mX1_judge_j86 mX1_judge_j113
  ((repeat' (first | ((with_reducible apply wp_let); try dsimp only) | ((with_reducible apply wp_gdJ); (focus (first | ((simp (disch := omega) only [J_lit, J_add, J_sub, J_mul, J_neg, J_n, jle, jlt, jeq, jnn, jnat, Int.toNat_natCast, bJ_0, bJ_1, bft, gd_T, nar_J, nar_0, nar_1, if_true, if_false, Option.bind_some, gd_t, e0, h.cD hc, h_hasSet h hT hc, e3]); rfl) | rfl)); (focus (first | exact True.intro | (first | exact vp_J (by omega) (by omega) (by omega) | omega)))) | ((with_reducible apply wp_ifJT); (focus (first | ((simp (disch := omega) only [J_lit, J_add, J_sub, J_mul, J_neg, J_n, jle, jlt, jeq, jnn, jnat, Int.toNat_natCast, bJ_0, bJ_1, bft, gd_T, nar_J, nar_0, nar_1, if_true, if_false, Option.bind_some, gd_t, decide_eq_false_iff_not, decide_eq_true_eq, e0, h.cD hc, h_hasSet h hT hc, e3]); rfl) | rfl)); (focus (first | exact True.intro | omega))) | ((with_reducible apply wp_ifJF); (focus (first | ((simp (disch := omega) only [J_lit, J_add, J_sub, J_mul, J_neg, J_n, jle, jlt, jeq, jnn, jnat, Int.toNat_natCast, bJ_0, bJ_1, bft, gd_T, nar_J, nar_0, nar_1, if_true, if_false, Option.bind_some, gd_t, decide_eq_false_iff_not, decide_eq_true_eq, e0, h.cD hc, h_hasSet h hT hc, e3]); rfl) | rfl)); (focus (first | exact not_false | omega))) | ((with_reducible apply wp_ifJ); (focus (first | ((simp (disch := omega) only [J_lit, J_add, J_sub, J_mul, J_neg, J_n, jle, jlt, jeq, jnn, jnat, Int.toNat_natCast, bJ_0, bJ_1, bft, gd_T, nar_J, nar_0, nar_1, if_true, if_false, Option.bind_some, gd_t, decide_eq_false_iff_not, decide_eq_true_eq, e0, h.cD hc, h_hasSet h hT hc, e3]); rfl) | rfl)); all_goals intro _) | (with_reducible apply wp_some) | ((with_reducible apply wp_eli); try dsimp only) | ((with_reducible apply wp_elr); try dsimp only) | ((with_reducible apply wp_bindE); (focus ((simp (disch := omega) only [J_lit, J_add, J_sub, J_mul, J_neg, J_n, jle, jlt, jeq, jnn, jnat, Int.toNat_natCast, bJ_0, bJ_1, bft, gd_T, nar_J, nar_0, nar_1, if_true, if_false, Option.bind_some, gd_t, e0, h.cD hc, h_hasSet h hT hc, e3]); rfl)); try dsimp only) | (with_reducible apply wp_bind))); all_goals (try (simp (disch := omega) only [J_lit, J_add, J_sub, J_mul, J_neg, J_n, jle, jlt, jeq, jnn, jnat, Int.toNat_natCast, bJ_0, bJ_1, bft, gd_T, nar_J, nar_0, nar_1, if_true, if_false, Option.bind_some, gd_t, e0, h.cD hc, h_hasSet h hT hc, e3])))
  · rename_i z; rw [g false (by rw [w, Bool.and_eq_false_iff, decide_eq_false_iff_not]; left; omega)]; exact f0
  · rename_i z1 z2; rw [g false (by rw [w, z2, Bool.and_false])]; exact f0
  · rename_i z1 z2; rw [Bool.not_eq_false] at z2; rw [g true (by rw [w, z2, Bool.and_true, decide_eq_true_eq]; omega)]; exact f1
end
end
