noncomputable section
set_option linter.unusedVariables false
set_option linter.unusedSimpArgs false
/-! PLAIN 70: the house is told: singers -/
theorem HWf.ext {C C1 : OhC} {FR GR BR R3 G3 : OhQ} {AN : OhN} (w : HWf C FR GR BR AN) (hc : ∀ s, C s ≤ C1 s) (h1 : ∀ s i k r, R3 s i k = some r → FR s i k = some r ∨ hOld C1 r) (h2 : ∀ s i k r, G3 s i k = some r → GR s i k = some r ∨ hOld C1 r) (h3 : ∀ s i a, ohKd s = 17 → G3 s i 1 = some a → a.1 ≠ 40 → GR s i 1 = some a) : HWf C1 R3 G3 BR AN :=
  ⟨fun s i k r q => (h1 s i k r q).elim (fun z => hOld_mono (w.fr s i k r z) hc) id, fun s i k r q => (h2 s i k r q).elim (fun z => hOld_mono (w.gr s i k r z) hc) id, fun s i k r n q => hOld_mono (w.br s i k r n q) hc, fun s i s' i' a k1 k2 q1 q2 q3 => w.own s i s' i' a k1 k2 (h3 s i a k1 q1 q3) (h3 s' i' a k2 q2 q3) q3, Nat.lt_of_lt_of_le w.c40 (hc 40), Nat.lt_of_lt_of_le w.c58 (hc 58), w.n40⟩
theorem h_linit {F : OhI} {G : OhQ} {C : OhC} {t : Rf} (h : 0 < C 40) : mJ2_init F G C t = some (sA F t.1 t.2 (uA (F t.1 t.2) 0 (J 0)), sA G t.1 t.2 (uA (G t.1 t.2) 1 (some (40, 0)))) := by
  apply wp_eq
  unfold mJ2_init mJ1_init mJ0_init
  ((repeat' (first | ((with_reducible apply wp_let); try dsimp only) | ((with_reducible apply wp_gdJ); (focus (first | ((simp (disch := omega) only [J_lit, J_add, J_sub, J_mul, J_neg, J_n, jle, jlt, jeq, jnn, jnat, Int.toNat_natCast, bJ_0, bJ_1, bft, gd_T, nar_J, nar_0, nar_1, if_true, if_false, Option.bind_some, gd_t, gd_t h]); rfl) | rfl)); (focus (first | exact True.intro | (first | exact vp_J (by omega) (by omega) (by omega) | omega)))) | ((with_reducible apply wp_ifJT); (focus (first | ((simp (disch := omega) only [J_lit, J_add, J_sub, J_mul, J_neg, J_n, jle, jlt, jeq, jnn, jnat, Int.toNat_natCast, bJ_0, bJ_1, bft, gd_T, nar_J, nar_0, nar_1, if_true, if_false, Option.bind_some, gd_t, decide_eq_false_iff_not, decide_eq_true_eq, gd_t h]); rfl) | rfl)); (focus (first | exact True.intro | omega))) | ((with_reducible apply wp_ifJF); (focus (first | ((simp (disch := omega) only [J_lit, J_add, J_sub, J_mul, J_neg, J_n, jle, jlt, jeq, jnn, jnat, Int.toNat_natCast, bJ_0, bJ_1, bft, gd_T, nar_J, nar_0, nar_1, if_true, if_false, Option.bind_some, gd_t, decide_eq_false_iff_not, decide_eq_true_eq, gd_t h]); rfl) | rfl)); (focus (first | exact not_false | omega))) | ((with_reducible apply wp_ifJ); (focus (first | ((simp (disch := omega) only [J_lit, J_add, J_sub, J_mul, J_neg, J_n, jle, jlt, jeq, jnn, jnat, Int.toNat_natCast, bJ_0, bJ_1, bft, gd_T, nar_J, nar_0, nar_1, if_true, if_false, Option.bind_some, gd_t, decide_eq_false_iff_not, decide_eq_true_eq, gd_t h]); rfl) | rfl)); all_goals intro _) | (with_reducible apply wp_some) | ((with_reducible apply wp_eli); try dsimp only) | ((with_reducible apply wp_elr); try dsimp only) | ((with_reducible apply wp_bindE); (focus ((simp (disch := omega) only [J_lit, J_add, J_sub, J_mul, J_neg, J_n, jle, jlt, jeq, jnn, jnat, Int.toNat_natCast, bJ_0, bJ_1, bft, gd_T, nar_J, nar_0, nar_1, if_true, if_false, Option.bind_some, gd_t, gd_t h]); rfl)); try dsimp only) | (with_reducible apply wp_bind))); all_goals (try (simp (disch := omega) only [J_lit, J_add, J_sub, J_mul, J_neg, J_n, jle, jlt, jeq, jnn, jnat, Int.toNat_natCast, bJ_0, bJ_1, bft, gd_T, nar_J, nar_0, nar_1, if_true, if_false, Option.bind_some, gd_t, gd_t h])))
def emF : Nat → Int32 := uA (fun _ => J 0) 0 (J 0)
def emG : Nat → OhR := uA (fun _ => none) 1 (some (40, 0))
def ctF (FI : OhI) (C : OhC) (t : Rf) : OhI := sA (sA (sA FI t.1 t.2 (uA (uA (uA (uA (FI t.1 t.2) 0 (J 12)) 1 (J 8)) 2 (J 4)) 3 (J 100))) 11 (C 11) emF) 12 (C 12) emF
def ctG (GR : OhQ) (C : OhC) : OhQ := sA (sA GR 11 (C 11) emG) 12 (C 12) emG
def ctR (FR : OhQ) (C : OhC) (t : Rf) : OhQ := sA FR t.1 t.2 (uA (uA (FR t.1 t.2) 5 (some (11, C 11))) 6 (some (12, C 12)))
def ctC (C : OhC) : OhC := uA (uA C 11 (C 11 + 1)) 12 (C 12 + 1)
section
variable {C : OhC} {FI : OhI} {FR GR : OhQ} {AI : OhI} {AR BR : OhQ} {AN : OhN} {S : PSt} {Z : PZ}
theorem h_init8 {t : Rf} (h40 : 0 < C 40) : mX8_init FI FR GR C t = some ((ctF FI C t, ctR FR C t, ctG GR C, ctC C), (2, 6)) := by
  have h1 : 0 < uA C 11 (C 11 + 1) 40 := by rw [uA_ne _ _ (by decide)]; exact h40
  have h2 : 0 < uA (uA C 11 (C 11 + 1)) 12 (uA C 11 (C 11 + 1) 12 + 1) 40 := by rw [uA_ne _ _ (by decide)]; exact h1
  have e12 : uA C 11 (C 11 + 1) 12 = C 12 := uA_ne _ _ (by decide)
  unfold mX8_init oLet oCost
  dsimp only
  rw [h_linit h1, Option.bind_some]
  dsimp only
  rw [h_linit h2, Option.bind_some, e12]
  simp only [sA_same, sA_sA, Option.map_some, J_lit]
  rfl
def sgC (C : OhC) : OhC := ctC (uA C 9 (C 9 + 1))
def sgF (FI : OhI) (C : OhC) (t : Rf) (a b c d : Int32) : OhI := sA (ctF (sA FI 9 (C 9) (fun _ => J 0)) C (9, C 9)) t.1 t.2 (uA (uA (uA (uA (ctF (sA FI 9 (C 9) (fun _ => J 0)) C (9, C 9) t.1 t.2) 0 a) 1 b) 2 c) 3 d)
def sgR (FR : OhQ) (C : OhC) : OhQ := ctR (sA FR 9 (C 9) (fun _ => none)) C (9, C 9)
def sgG (GR : OhQ) (C : OhC) (t : Rf) : OhQ := sA (ctG GR C) t.1 t.2 (uA (ctG GR C t.1 t.2) 4 (some (9, C 9)))
theorem ctF_9 {F : OhI} {C : OhC} {t : Rf} : ctF F (uA C 9 (C 9 + 1)) t = ctF F C t := by
  unfold ctF; rw [uA_ne _ _ (by decide), uA_ne _ _ (by decide)]
theorem ctG_9 {G : OhQ} {C : OhC} : ctG G (uA C 9 (C 9 + 1)) = ctG G C := by
  unfold ctG; rw [uA_ne _ _ (by decide), uA_ne _ _ (by decide)]
theorem ctR_9 {G : OhQ} {C : OhC} {t : Rf} : ctR G (uA C 9 (C 9 + 1)) t = ctR G C t := by
  unfold ctR; rw [uA_ne _ _ (by decide), uA_ne _ _ (by decide)]
theorem h_init7 {t : Rf} {a b c d : Int32} (h40 : 0 < C 40) : mX7_init FI FR GR C t a b c d = some ((sgF FI C t a b c d, sgR FR C, sgG GR C t, sgC C), (3, 13)) := by
  have h1 : 0 < uA C 9 (C 9 + 1) 40 := by rw [uA_ne _ _ (by decide)]; exact h40
  unfold mX7_init oLet oCost
  dsimp only
  rw [h_init8 h1, Option.bind_some, ctF_9, ctG_9, ctR_9]
  dsimp only
  simp only [sA_same, sA_sA, Option.map_some, J_lit]
  rfl
theorem ct_ne {F : OhI} {C : OhC} {s i : Nat} {g : Nat → Int32} (h1 : ¬ (s = 9 ∧ i = C 9)) (h2 : ¬ (s = 11 ∧ i = C 11)) (h3 : ¬ (s = 12 ∧ i = C 12)) : ctF (sA F 9 (C 9) g) C (9, C 9) s i = F s i := by
  unfold ctF
  rw [sA_ne _ _ h3, sA_ne _ _ h2, sA_ne _ _ h1, sA_ne _ _ h1]
theorem ctR_ne {F : OhQ} {C : OhC} {s i : Nat} {g : Nat → OhR} (h1 : ¬ (s = 9 ∧ i = C 9)) : ctR (sA F 9 (C 9) g) C (9, C 9) s i = F s i := by
  unfold ctR
  rw [sA_ne _ _ h1, sA_ne _ _ h1]
theorem ctG_ne {F : OhQ} {C : OhC} {s i : Nat} (h2 : ¬ (s = 11 ∧ i = C 11)) (h3 : ¬ (s = 12 ∧ i = C 12)) : ctG F C s i = F s i := by
  unfold ctG
  rw [sA_ne _ _ h3, sA_ne _ _ h2]
/-- a new contract stands in such a heap -/
theorem ct_new {F : OhI} {R G : OhQ} {i9 i11 i12 : Nat} (k9 : F 9 i9 0 = J 12 ∧ F 9 i9 1 = J 8 ∧ F 9 i9 2 = J 4 ∧ F 9 i9 3 = J 100) (r5 : R 9 i9 5 = some (11, i11)) (r6 : R 9 i9 6 = some (12, i12)) (f11 : F 11 i11 2 = J 0) (f12 : F 12 i12 2 = J 0) (g11 : G 11 i11 1 = some (40, 0)) (g12 : G 12 i12 1 = some (40, 0)) (n40 : AN 40 0 = 0) : HCt plainCt (9, i9) F R G BR AN := by
  have ls : ∀ s i, ohKd s = 17 → F s i 2 = J 0 → G s i 1 = some (40, 0) → hLs F G BR AN (s, i) 0 (fun _ => (0, 0)) := fun s i h1 h2 h3 => ⟨h1, h2, (40, 0), h3, .inl rfl, .inr rfl, by show 0 ≤ AN 40 0 ∧ AN 40 0 ≤ 100000; omega, fun k hk => by omega⟩
  refine ⟨show ohKd 9 = 7 by decide, k9.1, k9.2.1, k9.2.2.1, k9.2.2.2, ⟨(11, i11), fun _ => (0, 0), r5, ls 11 i11 (by decide) f11 g11, fun k hk => absurd hk (by simp [plainCt, PCt.g_rest, PCt.g_day, PCt.g_week, PCt.g_voice, PCt.g_nl, PCt.g_lf, PCt.g_lt, PCt.g_nf, PCt.g_much, PCt.g_cd])⟩, ⟨(12, i12), fun _ => (0, 0), r6, ls 12 i12 (by decide) f12 g12, fun k hk => absurd hk (by simp [plainCt, PCt.g_rest, PCt.g_day, PCt.g_week, PCt.g_voice, PCt.g_nl, PCt.g_lf, PCt.g_lt, PCt.g_nf, PCt.g_much, PCt.g_cd])⟩, fun x q => by have : R 9 i9 5 = some x := q; rw [r5] at this; cases this; rfl, fun x q => by have : R 9 i9 6 = some x := q; rw [r6] at this; cases this; rfl⟩
theorem h_singer {r0 : Nat} (hS : PStOk S) (hr : PStR r0 S) (hr0 : r0 ≤ 1000) (h : HInv S Z FI FR GR AI AR BR AN C) {v t z : Int} (h1 : jo v) (h2 : jo t) (h3 : jo z) :
    wk (mX1_singer FI FR GR AR BR AN C (J v) (J t) (J z)) 10 5000 (fun q => q.1 = (oSinger S v t z).1 ∧ HRes (oSinger S v t z).2 FI FR AI AR AN q.2.1 q.2.2.1 q.2.2.2.1 AI q.2.2.2.2.1 q.2.2.2.2.2.1 q.2.2.2.2.2.2) := by
  have sh := h.sh
  have hN := hS.nS
  have a1 := h1.1; have a2 := h1.2; have a3 := h2.1; have a4 := h2.2; have a5 := h3.1; have a6 := h3.2
  have same : ¬ (S.nS ≠ 20 ∧ (0 ≤ v ∧ v ≤ 63) ∧ (0 ≤ t ∧ t ≤ 63) ∧ (0 ≤ z ∧ z ≤ 9)) → (fun q : Int32 × OhI × OhQ × OhQ × OhQ × OhN × OhC => q.1 = (oSinger S v t z).1 ∧ HRes (oSinger S v t z).2 FI FR AI AR AN q.2.1 q.2.2.1 q.2.2.2.1 AI q.2.2.2.2.1 q.2.2.2.2.2.1 q.2.2.2.2.2.2) (J (-1), FI, FR, GR, BR, AN, C) := fun q => by
    unfold oSinger
    rw [if_neg q]
    exact ⟨rfl, HRes.same h⟩
  unfold mX1_singer
  by_cases hl : S.nS = 20
  · ((repeat' (first | ((with_reducible apply wk_let); try dsimp only) | ((with_reducible apply wk_gdJ); (focus (first | ((simp (disch := omega) only [J_lit, J_add, J_sub, J_mul, J_neg, J_n, jle, jlt, jeq, jnn, jnat, Int.toNat_natCast, bJ_0, bJ_1, bft, gd_T, nar_J, nar_0, nar_1, if_true, if_false, Option.bind_some, gd_t, h_size h.sgL]); rfl) | rfl)); (focus (first | exact True.intro | assumption | (first | exact vp_J (by omega) (by omega) (by omega) | omega)))) | ((with_reducible apply wk_ifJT); (focus (first | ((simp (disch := omega) only [J_lit, J_add, J_sub, J_mul, J_neg, J_n, jle, jlt, jeq, jnn, jnat, Int.toNat_natCast, bJ_0, bJ_1, bft, gd_T, nar_J, nar_0, nar_1, if_true, if_false, Option.bind_some, gd_t, decide_eq_false_iff_not, decide_eq_true_eq, h_size h.sgL]); rfl) | rfl)); (focus (first | exact True.intro | omega))) | ((with_reducible apply wk_ifJF); (focus (first | ((simp (disch := omega) only [J_lit, J_add, J_sub, J_mul, J_neg, J_n, jle, jlt, jeq, jnn, jnat, Int.toNat_natCast, bJ_0, bJ_1, bft, gd_T, nar_J, nar_0, nar_1, if_true, if_false, Option.bind_some, gd_t, decide_eq_false_iff_not, decide_eq_true_eq, h_size h.sgL]); rfl) | rfl)); (focus (first | exact not_false | omega))) | ((with_reducible apply wk_ifJ); (focus (first | ((simp (disch := omega) only [J_lit, J_add, J_sub, J_mul, J_neg, J_n, jle, jlt, jeq, jnn, jnat, Int.toNat_natCast, bJ_0, bJ_1, bft, gd_T, nar_J, nar_0, nar_1, if_true, if_false, Option.bind_some, gd_t, decide_eq_false_iff_not, decide_eq_true_eq, h_size h.sgL]); rfl) | rfl)); all_goals intro _) | (with_reducible apply wk_some0) | ((with_reducible apply wk_eli); try dsimp only) | ((with_reducible apply wk_elr); try dsimp only) | ((with_reducible apply wk_costS); (focus ((try dsimp only); omega)); (focus ((try dsimp only); omega)); try dsimp only) | ((with_reducible apply wk_bindE); (focus ((simp (disch := omega) only [J_lit, J_add, J_sub, J_mul, J_neg, J_n, jle, jlt, jeq, jnn, jnat, Int.toNat_natCast, bJ_0, bJ_1, bft, gd_T, nar_J, nar_0, nar_1, if_true, if_false, Option.bind_some, gd_t, h_size h.sgL]); rfl)); try dsimp only) | (with_reducible apply wk_bind) | (first | ((with_reducible apply wp_let); try dsimp only) | ((with_reducible apply wp_gdJ); (focus (first | ((simp (disch := omega) only [J_lit, J_add, J_sub, J_mul, J_neg, J_n, jle, jlt, jeq, jnn, jnat, Int.toNat_natCast, bJ_0, bJ_1, bft, gd_T, nar_J, nar_0, nar_1, if_true, if_false, Option.bind_some, gd_t, h_size h.sgL]); rfl) | rfl)); (focus (first | exact True.intro | (first | exact vp_J (by omega) (by omega) (by omega) | omega)))) | ((with_reducible apply wp_ifJT); (focus (first | ((simp (disch := omega) only [J_lit, J_add, J_sub, J_mul, J_neg, J_n, jle, jlt, jeq, jnn, jnat, Int.toNat_natCast, bJ_0, bJ_1, bft, gd_T, nar_J, nar_0, nar_1, if_true, if_false, Option.bind_some, gd_t, decide_eq_false_iff_not, decide_eq_true_eq, h_size h.sgL]); rfl) | rfl)); (focus (first | exact True.intro | omega))) | ((with_reducible apply wp_ifJF); (focus (first | ((simp (disch := omega) only [J_lit, J_add, J_sub, J_mul, J_neg, J_n, jle, jlt, jeq, jnn, jnat, Int.toNat_natCast, bJ_0, bJ_1, bft, gd_T, nar_J, nar_0, nar_1, if_true, if_false, Option.bind_some, gd_t, decide_eq_false_iff_not, decide_eq_true_eq, h_size h.sgL]); rfl) | rfl)); (focus (first | exact not_false | omega))) | ((with_reducible apply wp_ifJ); (focus (first | ((simp (disch := omega) only [J_lit, J_add, J_sub, J_mul, J_neg, J_n, jle, jlt, jeq, jnn, jnat, Int.toNat_natCast, bJ_0, bJ_1, bft, gd_T, nar_J, nar_0, nar_1, if_true, if_false, Option.bind_some, gd_t, decide_eq_false_iff_not, decide_eq_true_eq, h_size h.sgL]); rfl) | rfl)); all_goals intro _) | (with_reducible apply wp_some) | ((with_reducible apply wp_eli); try dsimp only) | ((with_reducible apply wp_elr); try dsimp only) | ((with_reducible apply wp_bindE); (focus ((simp (disch := omega) only [J_lit, J_add, J_sub, J_mul, J_neg, J_n, jle, jlt, jeq, jnn, jnat, Int.toNat_natCast, bJ_0, bJ_1, bft, gd_T, nar_J, nar_0, nar_1, if_true, if_false, Option.bind_some, gd_t, h_size h.sgL]); rfl)); try dsimp only) | (with_reducible apply wp_bind)))); all_goals (try (simp (disch := omega) only [J_lit, J_add, J_sub, J_mul, J_neg, J_n, jle, jlt, jeq, jnn, jnat, Int.toNat_natCast, bJ_0, bJ_1, bft, gd_T, nar_J, nar_0, nar_1, if_true, if_false, Option.bind_some, gd_t, h_size h.sgL])))
    first | exact same (by omega) | exact wk_some0 (same (by omega))
  by_cases hv : 0 ≤ v ∧ v ≤ 63
  · by_cases ht : 0 ≤ t ∧ t ≤ 63
    · by_cases hz : 0 ≤ z ∧ z ≤ 9
      · have e5 : oSinger S v t z = (J (S.nS : Int), ((((S.s_nS (S.nS + 1)).s_sg (fun k => if k = S.nS then PSg.mk v t z else S.sg k)).s_ct (fun k => if k = S.nS then plainCt else S.ct k)).s_stamp (S.stamp + J 1))) := by
          unfold oSinger
          rw [if_pos ⟨hl, hv, ht, hz⟩]
        have w := h.wf
        have c8 : ∀ s, s ≠ 8 → uA C 8 (C 8 + 1) s = C s := fun s q => uA_ne _ _ q
        have h40 : 0 < uA C 8 (C 8 + 1) 40 := by rw [c8 _ (by decide)]; exact w.c40
        have ei := h_init7 (FI := sA FI 8 (C 8) (fun _ => J 0)) (FR := FR) (GR := sA GR 8 (C 8) (fun _ => none)) (t := (8, C 8)) (a := J (S.nS : Int)) (b := J v) (c := J t) (d := J z) h40
        have hF8 : sgF (sA FI 8 (C 8) (fun _ => J 0)) (uA C 8 (C 8 + 1)) (8, C 8) (J (S.nS : Int)) (J v) (J t) (J z) 8 (C 8) = uA (uA (uA (uA (fun _ => J 0) 0 (J (S.nS : Int))) 1 (J v)) 2 (J t)) 3 (J z) := by
          unfold sgF
          rw [sA_same, ct_ne (by omega) (by omega) (by omega), sA_same]
        have hF9 : sgF (sA FI 8 (C 8) (fun _ => J 0)) (uA C 8 (C 8 + 1)) (8, C 8) (J (S.nS : Int)) (J v) (J t) (J z) 9 (C 9) = uA (uA (uA (uA (fun _ => J 0) 0 (J 12)) 1 (J 8)) 2 (J 4)) 3 (J 100) := by
          unfold sgF ctF
          rw [sA_ne _ _ (by show ¬ (9 = 8 ∧ _); omega), sA_ne _ _ (by omega), sA_ne _ _ (by omega), c8 9 (by decide), sA_same, sA_same]
        have hF11 : sgF (sA FI 8 (C 8) (fun _ => J 0)) (uA C 8 (C 8 + 1)) (8, C 8) (J (S.nS : Int)) (J v) (J t) (J z) 11 (C 11) = emF := by
          unfold sgF ctF
          rw [sA_ne _ _ (by show ¬ (11 = 8 ∧ _); omega), sA_ne _ _ (by omega), c8 11 (by decide), sA_same]
        have hF12 : sgF (sA FI 8 (C 8) (fun _ => J 0)) (uA C 8 (C 8 + 1)) (8, C 8) (J (S.nS : Int)) (J v) (J t) (J z) 12 (C 12) = emF := by
          unfold sgF ctF
          rw [sA_ne _ _ (by show ¬ (12 = 8 ∧ _); omega), c8 12 (by decide), sA_same]
        have k1 : ∀ s i, ¬ (s = 8 ∧ i = C 8) → ¬ (s = 9 ∧ i = C 9) → ¬ (s = 11 ∧ i = C 11) → ¬ (s = 12 ∧ i = C 12) → sgF (sA FI 8 (C 8) (fun _ => J 0)) (uA C 8 (C 8 + 1)) (8, C 8) (J (S.nS : Int)) (J v) (J t) (J z) s i = FI s i := fun s i q1 q2 q3 q4 => by
          unfold sgF
          rw [sA_ne _ _ q1, ct_ne (by rw [c8 9 (by decide)]; exact q2) (by rw [c8 11 (by decide)]; exact q3) (by rw [c8 12 (by decide)]; exact q4), sA_ne _ _ q1]
        generalize hF3 : sgF (sA FI 8 (C 8) (fun _ => J 0)) (uA C 8 (C 8 + 1)) (8, C 8) (J (S.nS : Int)) (J v) (J t) (J z) = F3 at ei hF8 hF9 hF11 hF12 k1
        have hR9 : sgR FR (uA C 8 (C 8 + 1)) 9 (C 9) = uA (uA (fun _ => none) 5 (some (11, C 11))) 6 (some (12, C 12)) := by
          unfold sgR ctR
          rw [c8 9 (by decide), c8 11 (by decide), c8 12 (by decide), sA_same, sA_same]
        have r1 : ∀ s i, ¬ (s = 9 ∧ i = C 9) → sgR FR (uA C 8 (C 8 + 1)) s i = FR s i := fun s i q => by
          unfold sgR
          rw [ctR_ne (by rw [c8 9 (by decide)]; exact q)]
        generalize hR3 : sgR FR (uA C 8 (C 8 + 1)) = R3 at ei hR9 r1
        have hG8 : sgG (sA GR 8 (C 8) (fun _ => none)) (uA C 8 (C 8 + 1)) (8, C 8) 8 (C 8) = uA (fun _ => none) 4 (some (9, C 9)) := by
          unfold sgG
          rw [sA_same, ctG_ne (by omega) (by omega), sA_same, c8 9 (by decide)]
        have hG11 : sgG (sA GR 8 (C 8) (fun _ => none)) (uA C 8 (C 8 + 1)) (8, C 8) 11 (C 11) = emG := by
          unfold sgG ctG
          rw [sA_ne _ _ (by show ¬ (11 = 8 ∧ _); omega), sA_ne _ _ (by omega), c8 11 (by decide), sA_same]
        have hG12 : sgG (sA GR 8 (C 8) (fun _ => none)) (uA C 8 (C 8 + 1)) (8, C 8) 12 (C 12) = emG := by
          unfold sgG ctG
          rw [sA_ne _ _ (by show ¬ (12 = 8 ∧ _); omega), c8 12 (by decide), sA_same]
        have g1 : ∀ s i, ¬ (s = 8 ∧ i = C 8) → ¬ (s = 11 ∧ i = C 11) → ¬ (s = 12 ∧ i = C 12) → sgG (sA GR 8 (C 8) (fun _ => none)) (uA C 8 (C 8 + 1)) (8, C 8) s i = GR s i := fun s i q1 q3 q4 => by
          unfold sgG
          rw [sA_ne _ _ q1, ctG_ne (by rw [c8 11 (by decide)]; exact q3) (by rw [c8 12 (by decide)]; exact q4), sA_ne _ _ q1]
        generalize hG3 : sgG (sA GR 8 (C 8) (fun _ => none)) (uA C 8 (C 8 + 1)) (8, C 8) = G3 at ei hG8 hG11 hG12 g1
        have hC8 : ∀ s, sgC (uA C 8 (C 8 + 1)) s = if s = 8 ∨ s = 9 ∨ s = 11 ∨ s = 12 then C s + 1 else C s := fun s => by
          unfold sgC ctC
          by_cases e8 : s = 8
          · subst e8; simp [uA_at]
          · by_cases e9 : s = 9
            · subst e9; simp [uA_at]
            · by_cases e11 : s = 11
              · subst e11; simp [uA_at]
              · by_cases e12 : s = 12
                · subst e12; simp [uA_at]
                · simp [uA_at, e8, e9, e11, e12]
        generalize hC3 : sgC (uA C 8 (C 8 + 1)) = C1 at ei hC8
        have hC1 : ∀ s, C s ≤ C1 s := fun s => by rw [hC8]; split <;> omega
        have nw : ∀ s, s = 8 ∨ s = 9 ∨ s = 11 ∨ s = 12 → hOld C1 (s, C s) := fun s hs _ => by show C s < C1 s; rw [hC8, if_pos hs]; omega
        have o8 : ∀ {a : Rf}, hOld C a → ¬ (a.1 = 8 ∧ a.2 = C 8) ∧ ¬ (a.1 = 9 ∧ a.2 = C 9) ∧ ¬ (a.1 = 11 ∧ a.2 = C 11) ∧ ¬ (a.1 = 12 ∧ a.2 = C 12) := fun ha => ⟨new_ne ha (by decide) (by decide), new_ne ha (by decide) (by decide), new_ne ha (by decide) (by decide), new_ne ha (by decide) (by decide)⟩
        have k2 : ∀ a : Rf, hOld C a → F3 a.1 a.2 = FI a.1 a.2 := fun a ha => k1 _ _ (o8 ha).1 (o8 ha).2.1 (o8 ha).2.2.1 (o8 ha).2.2.2
        have k3 : ∀ a : Rf, hOld C a → R3 a.1 a.2 = FR a.1 a.2 := fun a ha => r1 _ _ (o8 ha).2.1
        have k4 : ∀ a : Rf, hOld C a → G3 a.1 a.2 = GR a.1 a.2 := fun a ha => g1 _ _ (o8 ha).1 (o8 ha).2.2.1 (o8 ha).2.2.2
        have w1 : HWf C1 R3 G3 BR AN := by
          refine w.ext hC1 (fun s i k r q => ?_) (fun s i k r q => ?_) (fun s i a q1 q2 q3 => ?_)
          · by_cases e : s = 9 ∧ i = C 9
            · rw [e.1, e.2, hR9] at q
              right
              by_cases e6 : k = 6
              · subst e6; rw [uA_same] at q; cases q; exact nw 12 (by omega)
              · rw [uA_ne _ _ e6] at q
                by_cases e5 : k = 5
                · subst e5; rw [uA_same] at q; cases q; exact nw 11 (by omega)
                · rw [uA_ne _ _ e5] at q; cases q
            · rw [r1 _ _ e] at q; exact .inl q
          · by_cases e : s = 8 ∧ i = C 8
            · rw [e.1, e.2, hG8] at q
              right
              by_cases e6 : k = 4
              · subst e6; rw [uA_same] at q; cases q; exact nw 9 (by omega)
              · rw [uA_ne _ _ e6] at q; cases q
            · by_cases e1 : s = 11 ∧ i = C 11
              · rw [e1.1, e1.2, hG11] at q
                right
                unfold emG at q
                by_cases e6 : k = 1
                · subst e6; rw [uA_same] at q; cases q; exact old_base (by decide)
                · rw [uA_ne _ _ e6] at q; cases q
              · by_cases e2 : s = 12 ∧ i = C 12
                · rw [e2.1, e2.2, hG12] at q
                  right
                  unfold emG at q
                  by_cases e6 : k = 1
                  · subst e6; rw [uA_same] at q; cases q; exact old_base (by decide)
                  · rw [uA_ne _ _ e6] at q; cases q
                · rw [g1 _ _ e e1 e2] at q; exact .inl q
          · have n8 : ¬ (s = 8 ∧ i = C 8) := by rintro ⟨rfl, _⟩; revert q1; decide
            by_cases e1 : s = 11 ∧ i = C 11
            · rw [e1.1, e1.2, hG11] at q2
              have : a = (40, 0) := by unfold emG at q2; rw [uA_same] at q2; cases q2; rfl
              rw [this] at q3; exact absurd rfl q3
            · by_cases e2 : s = 12 ∧ i = C 12
              · rw [e2.1, e2.2, hG12] at q2
                have : a = (40, 0) := by unfold emG at q2; rw [uA_same] at q2; cases q2; rfl
                rw [this] at q3; exact absurd rfl q3
              · rw [g1 _ _ n8 e1 e2] at q2; exact q2
        have lg : hLs F3 G3 BR AN (310, 0) S.nS Z.s := by
          obtain ⟨z0, z1, a, z2, z3⟩ := h.sgL
          exact ⟨z0, by rw [k2 (310, 0) (old_base (by decide))]; exact z1, a, by rw [k4 (310, 0) (old_base (by decide))]; exact z2, z3⟩
        obtain ⟨F4, G4, B4, N4, C4, cc, cd, ea, ca, cb, l4, x4, w4⟩ := h_add (e := (8, C 8)) lg (by omega) w1 (fun k hk => by rw [(h.sg k hk).kd]; decide) (show ohKd 8 < 17 by decide) (nw 8 (by omega))
        have X : HKa [6] [] C C4 (310, 0) FI (stF F4 (S.stamp + J 1)) FR R3 GR G4 AI AI BR B4 AN N4 := HKa.mk1 k2 k3 k4 (fun _ _ => rfl) (fun _ _ => rfl) hC1 x4 (by decide) (by decide)
        have X1 : HKa [6] [] C1 C4 (310, 0) F3 (stF F4 (S.stamp + J 1)) R3 R3 G3 G4 AI AI BR B4 AN N4 := HKa.mk1 (fun _ _ => rfl) (fun _ _ => rfl) (fun _ _ => rfl) (fun _ _ => rfl) (fun _ _ => rfl) (fun _ => Nat.le_refl _) x4 (by decide) (by decide)
        have K := X.kp (by decide)
        have K1 := X1.kp (by decide)
        have f46 : F4 0 0 6 = S.stamp := by rw [x4.fi 0 0 (by decide), k1 0 0 (by omega) (by omega) (by omega) (by omega)]; exact h.stamp
        have hob : ∀ s i, 37 ≤ s → hOld C (s, i) := fun s i q => old_base q
        have l5 : hLs (stF F4 (S.stamp + J 1)) G4 B4 N4 (310, 0) (S.nS + 1) (updF Z.s S.nS (8, C 8)) := l4.fi (stF_ne _ _ (by decide))
        have l5s := h_size l5
        have sh7 : ohShH R3 AR N4 := X.sh sh
        have l3 : hLs (sA FI 8 (C 8) (fun _ => J 0)) GR BR AN (310, 0) S.nS Z.s := h.sgL.fi (sA_ne _ _ (by omega))
        have new : HSg (PSg.mk v t z) plainCt S.nS (8, C 8) F3 R3 G3 BR AN := by
          refine ⟨show ohKd 8 = 6 by decide, ?_, ?_, ?_, ?_, (9, C 9), ?_, ct_new (i11 := C 11) (i12 := C 12) ?_ ?_ ?_ ?_ ?_ ?_ ?_ w.n40⟩
          · show F3 8 (C 8) 0 = _; rw [hF8]; rfl
          · show F3 8 (C 8) 1 = _; rw [hF8]; rfl
          · show F3 8 (C 8) 2 = _; rw [hF8]; rfl
          · show F3 8 (C 8) 3 = _; rw [hF8]; rfl
          · show G3 8 (C 8) 4 = _; rw [hG8]; rfl
          · rw [hF9]; exact ⟨rfl, rfl, rfl, rfl⟩
          · exact (congrFun hR9 5).trans rfl
          · exact (congrFun hR9 6).trans rfl
          · exact (congrFun hF11 2).trans rfl
          · exact (congrFun hF12 2).trans rfl
          · exact (congrFun hG11 1).trans rfl
          · exact (congrFun hG12 1).trans rfl
        ((repeat' (first | ((with_reducible apply wk_let); try dsimp only) | ((with_reducible apply wk_gdJ); (focus (first | ((simp (disch := omega) only [J_lit, J_add, J_sub, J_mul, J_neg, J_n, jle, jlt, jeq, jnn, jnat, Int.toNat_natCast, bJ_0, bJ_1, bft, gd_T, nar_J, nar_0, nar_1, if_true, if_false, Option.bind_some, gd_t, h_size h.sgL, h_isIn, h_size l3, ei, ea, f46, show (sA F4 0 0 (uA (F4 0 0) 6 (S.stamp + J 1))) = stF F4 (S.stamp + J 1) from rfl, eq_true sh7, l5s]); rfl) | rfl)); (focus (first | exact True.intro | assumption | (first | exact vp_J (by omega) (by omega) (by omega) | omega)))) | ((with_reducible apply wk_ifJT); (focus (first | ((simp (disch := omega) only [J_lit, J_add, J_sub, J_mul, J_neg, J_n, jle, jlt, jeq, jnn, jnat, Int.toNat_natCast, bJ_0, bJ_1, bft, gd_T, nar_J, nar_0, nar_1, if_true, if_false, Option.bind_some, gd_t, decide_eq_false_iff_not, decide_eq_true_eq, h_size h.sgL, h_isIn, h_size l3, ei, ea, f46, show (sA F4 0 0 (uA (F4 0 0) 6 (S.stamp + J 1))) = stF F4 (S.stamp + J 1) from rfl, eq_true sh7, l5s]); rfl) | rfl)); (focus (first | exact True.intro | omega))) | ((with_reducible apply wk_ifJF); (focus (first | ((simp (disch := omega) only [J_lit, J_add, J_sub, J_mul, J_neg, J_n, jle, jlt, jeq, jnn, jnat, Int.toNat_natCast, bJ_0, bJ_1, bft, gd_T, nar_J, nar_0, nar_1, if_true, if_false, Option.bind_some, gd_t, decide_eq_false_iff_not, decide_eq_true_eq, h_size h.sgL, h_isIn, h_size l3, ei, ea, f46, show (sA F4 0 0 (uA (F4 0 0) 6 (S.stamp + J 1))) = stF F4 (S.stamp + J 1) from rfl, eq_true sh7, l5s]); rfl) | rfl)); (focus (first | exact not_false | omega))) | ((with_reducible apply wk_ifJ); (focus (first | ((simp (disch := omega) only [J_lit, J_add, J_sub, J_mul, J_neg, J_n, jle, jlt, jeq, jnn, jnat, Int.toNat_natCast, bJ_0, bJ_1, bft, gd_T, nar_J, nar_0, nar_1, if_true, if_false, Option.bind_some, gd_t, decide_eq_false_iff_not, decide_eq_true_eq, h_size h.sgL, h_isIn, h_size l3, ei, ea, f46, show (sA F4 0 0 (uA (F4 0 0) 6 (S.stamp + J 1))) = stF F4 (S.stamp + J 1) from rfl, eq_true sh7, l5s]); rfl) | rfl)); all_goals intro _) | (with_reducible apply wk_some0) | ((with_reducible apply wk_eli); try dsimp only) | ((with_reducible apply wk_elr); try dsimp only) | ((with_reducible apply wk_costS); (focus ((try dsimp only); omega)); (focus ((try dsimp only); omega)); try dsimp only) | ((with_reducible apply wk_bindE); (focus ((simp (disch := omega) only [J_lit, J_add, J_sub, J_mul, J_neg, J_n, jle, jlt, jeq, jnn, jnat, Int.toNat_natCast, bJ_0, bJ_1, bft, gd_T, nar_J, nar_0, nar_1, if_true, if_false, Option.bind_some, gd_t, h_size h.sgL, h_isIn, h_size l3, ei, ea, f46, show (sA F4 0 0 (uA (F4 0 0) 6 (S.stamp + J 1))) = stF F4 (S.stamp + J 1) from rfl, eq_true sh7, l5s]); rfl)); try dsimp only) | (with_reducible apply wk_bind) | (first | ((with_reducible apply wp_let); try dsimp only) | ((with_reducible apply wp_gdJ); (focus (first | ((simp (disch := omega) only [J_lit, J_add, J_sub, J_mul, J_neg, J_n, jle, jlt, jeq, jnn, jnat, Int.toNat_natCast, bJ_0, bJ_1, bft, gd_T, nar_J, nar_0, nar_1, if_true, if_false, Option.bind_some, gd_t, h_size h.sgL, h_isIn, h_size l3, ei, ea, f46, show (sA F4 0 0 (uA (F4 0 0) 6 (S.stamp + J 1))) = stF F4 (S.stamp + J 1) from rfl, eq_true sh7, l5s]); rfl) | rfl)); (focus (first | exact True.intro | (first | exact vp_J (by omega) (by omega) (by omega) | omega)))) | ((with_reducible apply wp_ifJT); (focus (first | ((simp (disch := omega) only [J_lit, J_add, J_sub, J_mul, J_neg, J_n, jle, jlt, jeq, jnn, jnat, Int.toNat_natCast, bJ_0, bJ_1, bft, gd_T, nar_J, nar_0, nar_1, if_true, if_false, Option.bind_some, gd_t, decide_eq_false_iff_not, decide_eq_true_eq, h_size h.sgL, h_isIn, h_size l3, ei, ea, f46, show (sA F4 0 0 (uA (F4 0 0) 6 (S.stamp + J 1))) = stF F4 (S.stamp + J 1) from rfl, eq_true sh7, l5s]); rfl) | rfl)); (focus (first | exact True.intro | omega))) | ((with_reducible apply wp_ifJF); (focus (first | ((simp (disch := omega) only [J_lit, J_add, J_sub, J_mul, J_neg, J_n, jle, jlt, jeq, jnn, jnat, Int.toNat_natCast, bJ_0, bJ_1, bft, gd_T, nar_J, nar_0, nar_1, if_true, if_false, Option.bind_some, gd_t, decide_eq_false_iff_not, decide_eq_true_eq, h_size h.sgL, h_isIn, h_size l3, ei, ea, f46, show (sA F4 0 0 (uA (F4 0 0) 6 (S.stamp + J 1))) = stF F4 (S.stamp + J 1) from rfl, eq_true sh7, l5s]); rfl) | rfl)); (focus (first | exact not_false | omega))) | ((with_reducible apply wp_ifJ); (focus (first | ((simp (disch := omega) only [J_lit, J_add, J_sub, J_mul, J_neg, J_n, jle, jlt, jeq, jnn, jnat, Int.toNat_natCast, bJ_0, bJ_1, bft, gd_T, nar_J, nar_0, nar_1, if_true, if_false, Option.bind_some, gd_t, decide_eq_false_iff_not, decide_eq_true_eq, h_size h.sgL, h_isIn, h_size l3, ei, ea, f46, show (sA F4 0 0 (uA (F4 0 0) 6 (S.stamp + J 1))) = stF F4 (S.stamp + J 1) from rfl, eq_true sh7, l5s]); rfl) | rfl)); all_goals intro _) | (with_reducible apply wp_some) | ((with_reducible apply wp_eli); try dsimp only) | ((with_reducible apply wp_elr); try dsimp only) | ((with_reducible apply wp_bindE); (focus ((simp (disch := omega) only [J_lit, J_add, J_sub, J_mul, J_neg, J_n, jle, jlt, jeq, jnn, jnat, Int.toNat_natCast, bJ_0, bJ_1, bft, gd_T, nar_J, nar_0, nar_1, if_true, if_false, Option.bind_some, gd_t, h_size h.sgL, h_isIn, h_size l3, ei, ea, f46, show (sA F4 0 0 (uA (F4 0 0) 6 (S.stamp + J 1))) = stF F4 (S.stamp + J 1) from rfl, eq_true sh7, l5s]); rfl)); try dsimp only) | (with_reducible apply wp_bind)))); all_goals (try (simp (disch := omega) only [J_lit, J_add, J_sub, J_mul, J_neg, J_n, jle, jlt, jeq, jnn, jnat, Int.toNat_natCast, bJ_0, bJ_1, bft, gd_T, nar_J, nar_0, nar_1, if_true, if_false, Option.bind_some, gd_t, h_size h.sgL, h_isIn, h_size l3, ei, ea, f46, show (sA F4 0 0 (uA (F4 0 0) 6 (S.stamp + J 1))) = stF F4 (S.stamp + J 1) from rfl, eq_true sh7, l5s])))
        have ezn : updF Z.s S.nS (8, C 8) S.nS = (8, C 8) := by simp [updF]
        have ezo : ∀ k, k < S.nS → updF Z.s S.nS (8, C 8) k = Z.s k := fun k hk => by simp [updF]; omega
        have hd : ∀ k, k < S.nC → HCl (S.ca k) k (Z.c k) (Z.s_s (updF Z.s S.nS (8, C 8))) (stF F4 (S.stamp + J 1)) R3 := fun k hk => ((h.cls k hk).kp w K (h.caL.old w hk))
        have HS : HSt ((((S.s_nS (S.nS + 1)).s_sg (fun k => if k = S.nS then PSg.mk v t z else S.sg k)).s_ct (fun k => if k = S.nS then plainCt else S.ct k)).s_stamp (S.stamp + J 1)) (Z.s_s (updF Z.s S.nS (8, C 8))) (stF F4 (S.stamp + J 1)) R3 G4 AI B4 N4 := (HSt.mk (daily := by rw [X.f0 4 (by decide)]; exact h.daily) (weekly := by rw [X.f0 5 (by decide)]; exact h.weekly) (today := by rw [X.f0 3 (by decide)]; exact h.today) (one := h.one) (other := h.other) (opL := h.opL.kp w K (hob _ _ (by decide)) (by decide)) (op := fun o ho => (h.op o ho).kp w K (h.opL.old w ho)) (sgL := l5) (sg := fun s hs => by
            have hs' : s < S.nS + 1 := hs
            by_cases e : s = S.nS
            · subst e
              show HSg (if S.nS = S.nS then _ else _) (if S.nS = S.nS then _ else _) S.nS (updF Z.s S.nS (8, C 8) S.nS) _ _ _ _ _
              rw [if_pos rfl, if_pos rfl, ezn]
              exact new.kp w1 K1 (nw 8 (by omega))
            · show HSg (if s = S.nS then _ else _) (if s = S.nS then _ else _) s (updF Z.s S.nS (8, C 8) s) _ _ _ _ _
              rw [if_neg e, if_neg e, ezo s (by omega)]
              exact (h.sg s (by omega)).kp w K (h.sgL.old w (by omega))) (caL := h.caL.kp w K (hob _ _ (by decide)) (by decide)) (ptL := h.ptL.kp w K (hob _ _ (by decide)) (by decide)) (pt := fun k hk => by
            have q := h.pt k hk
            obtain ⟨e, _, _⟩ := K.of q.1 (by omega) (by omega) (h.ptL.old w hk)
            rw [← e] at q; exact q) (ilL := h.ilL.kp w K (hob _ _ (by decide)) (by decide)) (il := fun k hk => by
            have q := h.il k hk
            obtain ⟨e, _, _⟩ := K.of q.1 (by omega) (by omega) (h.ilL.old w hk)
            rw [← e] at q; exact q) (leL := h.leL.kp w K (hob _ _ (by decide)) (by decide)) (le := fun k hk => by
            have q := h.le k hk
            obtain ⟨e, _, _⟩ := K.of q.1 (by omega) (by omega) (h.leL.old w hk)
            rw [← e] at q; exact q) (oinj := h.oinj))
        rw [e5]
        refine ⟨congrArg J (by show ((S.nS + 1 : Nat) : Int) - 1 = _; omega), ⟨⟨_, h.rest X (by decide) (by decide) w4 HS hd h.cij ?_ ?_ ?_ ?_ (by decide) (by decide) rfl rfl rfl rfl rfl rfl rfl rfl rfl (fun k hk => ⟨rfl, rfl⟩) (fun hn he => absurd he (stamp_ne hr hr0))⟩, X.out (by decide)⟩⟩
        · exact (X.f0 1 (by decide)).trans h.taped
        · exact h.tape
        · exact (X.f0 2 (by decide)).trans h.fault
        · exact stF_6 _ _
      · ((repeat' (first | ((with_reducible apply wk_let); try dsimp only) | ((with_reducible apply wk_gdJ); (focus (first | ((simp (disch := omega) only [J_lit, J_add, J_sub, J_mul, J_neg, J_n, jle, jlt, jeq, jnn, jnat, Int.toNat_natCast, bJ_0, bJ_1, bft, gd_T, nar_J, nar_0, nar_1, if_true, if_false, Option.bind_some, gd_t, h_size h.sgL, h_isIn]); rfl) | rfl)); (focus (first | exact True.intro | assumption | (first | exact vp_J (by omega) (by omega) (by omega) | omega)))) | ((with_reducible apply wk_ifJT); (focus (first | ((simp (disch := omega) only [J_lit, J_add, J_sub, J_mul, J_neg, J_n, jle, jlt, jeq, jnn, jnat, Int.toNat_natCast, bJ_0, bJ_1, bft, gd_T, nar_J, nar_0, nar_1, if_true, if_false, Option.bind_some, gd_t, decide_eq_false_iff_not, decide_eq_true_eq, h_size h.sgL, h_isIn]); rfl) | rfl)); (focus (first | exact True.intro | omega))) | ((with_reducible apply wk_ifJF); (focus (first | ((simp (disch := omega) only [J_lit, J_add, J_sub, J_mul, J_neg, J_n, jle, jlt, jeq, jnn, jnat, Int.toNat_natCast, bJ_0, bJ_1, bft, gd_T, nar_J, nar_0, nar_1, if_true, if_false, Option.bind_some, gd_t, decide_eq_false_iff_not, decide_eq_true_eq, h_size h.sgL, h_isIn]); rfl) | rfl)); (focus (first | exact not_false | omega))) | ((with_reducible apply wk_ifJ); (focus (first | ((simp (disch := omega) only [J_lit, J_add, J_sub, J_mul, J_neg, J_n, jle, jlt, jeq, jnn, jnat, Int.toNat_natCast, bJ_0, bJ_1, bft, gd_T, nar_J, nar_0, nar_1, if_true, if_false, Option.bind_some, gd_t, decide_eq_false_iff_not, decide_eq_true_eq, h_size h.sgL, h_isIn]); rfl) | rfl)); all_goals intro _) | (with_reducible apply wk_some0) | ((with_reducible apply wk_eli); try dsimp only) | ((with_reducible apply wk_elr); try dsimp only) | ((with_reducible apply wk_costS); (focus ((try dsimp only); omega)); (focus ((try dsimp only); omega)); try dsimp only) | ((with_reducible apply wk_bindE); (focus ((simp (disch := omega) only [J_lit, J_add, J_sub, J_mul, J_neg, J_n, jle, jlt, jeq, jnn, jnat, Int.toNat_natCast, bJ_0, bJ_1, bft, gd_T, nar_J, nar_0, nar_1, if_true, if_false, Option.bind_some, gd_t, h_size h.sgL, h_isIn]); rfl)); try dsimp only) | (with_reducible apply wk_bind) | (first | ((with_reducible apply wp_let); try dsimp only) | ((with_reducible apply wp_gdJ); (focus (first | ((simp (disch := omega) only [J_lit, J_add, J_sub, J_mul, J_neg, J_n, jle, jlt, jeq, jnn, jnat, Int.toNat_natCast, bJ_0, bJ_1, bft, gd_T, nar_J, nar_0, nar_1, if_true, if_false, Option.bind_some, gd_t, h_size h.sgL, h_isIn]); rfl) | rfl)); (focus (first | exact True.intro | (first | exact vp_J (by omega) (by omega) (by omega) | omega)))) | ((with_reducible apply wp_ifJT); (focus (first | ((simp (disch := omega) only [J_lit, J_add, J_sub, J_mul, J_neg, J_n, jle, jlt, jeq, jnn, jnat, Int.toNat_natCast, bJ_0, bJ_1, bft, gd_T, nar_J, nar_0, nar_1, if_true, if_false, Option.bind_some, gd_t, decide_eq_false_iff_not, decide_eq_true_eq, h_size h.sgL, h_isIn]); rfl) | rfl)); (focus (first | exact True.intro | omega))) | ((with_reducible apply wp_ifJF); (focus (first | ((simp (disch := omega) only [J_lit, J_add, J_sub, J_mul, J_neg, J_n, jle, jlt, jeq, jnn, jnat, Int.toNat_natCast, bJ_0, bJ_1, bft, gd_T, nar_J, nar_0, nar_1, if_true, if_false, Option.bind_some, gd_t, decide_eq_false_iff_not, decide_eq_true_eq, h_size h.sgL, h_isIn]); rfl) | rfl)); (focus (first | exact not_false | omega))) | ((with_reducible apply wp_ifJ); (focus (first | ((simp (disch := omega) only [J_lit, J_add, J_sub, J_mul, J_neg, J_n, jle, jlt, jeq, jnn, jnat, Int.toNat_natCast, bJ_0, bJ_1, bft, gd_T, nar_J, nar_0, nar_1, if_true, if_false, Option.bind_some, gd_t, decide_eq_false_iff_not, decide_eq_true_eq, h_size h.sgL, h_isIn]); rfl) | rfl)); all_goals intro _) | (with_reducible apply wp_some) | ((with_reducible apply wp_eli); try dsimp only) | ((with_reducible apply wp_elr); try dsimp only) | ((with_reducible apply wp_bindE); (focus ((simp (disch := omega) only [J_lit, J_add, J_sub, J_mul, J_neg, J_n, jle, jlt, jeq, jnn, jnat, Int.toNat_natCast, bJ_0, bJ_1, bft, gd_T, nar_J, nar_0, nar_1, if_true, if_false, Option.bind_some, gd_t, h_size h.sgL, h_isIn]); rfl)); try dsimp only) | (with_reducible apply wp_bind)))); all_goals (try (simp (disch := omega) only [J_lit, J_add, J_sub, J_mul, J_neg, J_n, jle, jlt, jeq, jnn, jnat, Int.toNat_natCast, bJ_0, bJ_1, bft, gd_T, nar_J, nar_0, nar_1, if_true, if_false, Option.bind_some, gd_t, h_size h.sgL, h_isIn])))
        first | exact same (by omega) | exact wk_some0 (same (by omega))
    · ((repeat' (first | ((with_reducible apply wk_let); try dsimp only) | ((with_reducible apply wk_gdJ); (focus (first | ((simp (disch := omega) only [J_lit, J_add, J_sub, J_mul, J_neg, J_n, jle, jlt, jeq, jnn, jnat, Int.toNat_natCast, bJ_0, bJ_1, bft, gd_T, nar_J, nar_0, nar_1, if_true, if_false, Option.bind_some, gd_t, h_size h.sgL, h_isIn]); rfl) | rfl)); (focus (first | exact True.intro | assumption | (first | exact vp_J (by omega) (by omega) (by omega) | omega)))) | ((with_reducible apply wk_ifJT); (focus (first | ((simp (disch := omega) only [J_lit, J_add, J_sub, J_mul, J_neg, J_n, jle, jlt, jeq, jnn, jnat, Int.toNat_natCast, bJ_0, bJ_1, bft, gd_T, nar_J, nar_0, nar_1, if_true, if_false, Option.bind_some, gd_t, decide_eq_false_iff_not, decide_eq_true_eq, h_size h.sgL, h_isIn]); rfl) | rfl)); (focus (first | exact True.intro | omega))) | ((with_reducible apply wk_ifJF); (focus (first | ((simp (disch := omega) only [J_lit, J_add, J_sub, J_mul, J_neg, J_n, jle, jlt, jeq, jnn, jnat, Int.toNat_natCast, bJ_0, bJ_1, bft, gd_T, nar_J, nar_0, nar_1, if_true, if_false, Option.bind_some, gd_t, decide_eq_false_iff_not, decide_eq_true_eq, h_size h.sgL, h_isIn]); rfl) | rfl)); (focus (first | exact not_false | omega))) | ((with_reducible apply wk_ifJ); (focus (first | ((simp (disch := omega) only [J_lit, J_add, J_sub, J_mul, J_neg, J_n, jle, jlt, jeq, jnn, jnat, Int.toNat_natCast, bJ_0, bJ_1, bft, gd_T, nar_J, nar_0, nar_1, if_true, if_false, Option.bind_some, gd_t, decide_eq_false_iff_not, decide_eq_true_eq, h_size h.sgL, h_isIn]); rfl) | rfl)); all_goals intro _) | (with_reducible apply wk_some0) | ((with_reducible apply wk_eli); try dsimp only) | ((with_reducible apply wk_elr); try dsimp only) | ((with_reducible apply wk_costS); (focus ((try dsimp only); omega)); (focus ((try dsimp only); omega)); try dsimp only) | ((with_reducible apply wk_bindE); (focus ((simp (disch := omega) only [J_lit, J_add, J_sub, J_mul, J_neg, J_n, jle, jlt, jeq, jnn, jnat, Int.toNat_natCast, bJ_0, bJ_1, bft, gd_T, nar_J, nar_0, nar_1, if_true, if_false, Option.bind_some, gd_t, h_size h.sgL, h_isIn]); rfl)); try dsimp only) | (with_reducible apply wk_bind) | (first | ((with_reducible apply wp_let); try dsimp only) | ((with_reducible apply wp_gdJ); (focus (first | ((simp (disch := omega) only [J_lit, J_add, J_sub, J_mul, J_neg, J_n, jle, jlt, jeq, jnn, jnat, Int.toNat_natCast, bJ_0, bJ_1, bft, gd_T, nar_J, nar_0, nar_1, if_true, if_false, Option.bind_some, gd_t, h_size h.sgL, h_isIn]); rfl) | rfl)); (focus (first | exact True.intro | (first | exact vp_J (by omega) (by omega) (by omega) | omega)))) | ((with_reducible apply wp_ifJT); (focus (first | ((simp (disch := omega) only [J_lit, J_add, J_sub, J_mul, J_neg, J_n, jle, jlt, jeq, jnn, jnat, Int.toNat_natCast, bJ_0, bJ_1, bft, gd_T, nar_J, nar_0, nar_1, if_true, if_false, Option.bind_some, gd_t, decide_eq_false_iff_not, decide_eq_true_eq, h_size h.sgL, h_isIn]); rfl) | rfl)); (focus (first | exact True.intro | omega))) | ((with_reducible apply wp_ifJF); (focus (first | ((simp (disch := omega) only [J_lit, J_add, J_sub, J_mul, J_neg, J_n, jle, jlt, jeq, jnn, jnat, Int.toNat_natCast, bJ_0, bJ_1, bft, gd_T, nar_J, nar_0, nar_1, if_true, if_false, Option.bind_some, gd_t, decide_eq_false_iff_not, decide_eq_true_eq, h_size h.sgL, h_isIn]); rfl) | rfl)); (focus (first | exact not_false | omega))) | ((with_reducible apply wp_ifJ); (focus (first | ((simp (disch := omega) only [J_lit, J_add, J_sub, J_mul, J_neg, J_n, jle, jlt, jeq, jnn, jnat, Int.toNat_natCast, bJ_0, bJ_1, bft, gd_T, nar_J, nar_0, nar_1, if_true, if_false, Option.bind_some, gd_t, decide_eq_false_iff_not, decide_eq_true_eq, h_size h.sgL, h_isIn]); rfl) | rfl)); all_goals intro _) | (with_reducible apply wp_some) | ((with_reducible apply wp_eli); try dsimp only) | ((with_reducible apply wp_elr); try dsimp only) | ((with_reducible apply wp_bindE); (focus ((simp (disch := omega) only [J_lit, J_add, J_sub, J_mul, J_neg, J_n, jle, jlt, jeq, jnn, jnat, Int.toNat_natCast, bJ_0, bJ_1, bft, gd_T, nar_J, nar_0, nar_1, if_true, if_false, Option.bind_some, gd_t, h_size h.sgL, h_isIn]); rfl)); try dsimp only) | (with_reducible apply wp_bind)))); all_goals (try (simp (disch := omega) only [J_lit, J_add, J_sub, J_mul, J_neg, J_n, jle, jlt, jeq, jnn, jnat, Int.toNat_natCast, bJ_0, bJ_1, bft, gd_T, nar_J, nar_0, nar_1, if_true, if_false, Option.bind_some, gd_t, h_size h.sgL, h_isIn])))
      first | exact same (by omega) | exact wk_some0 (same (by omega))
  · ((repeat' (first | ((with_reducible apply wk_let); try dsimp only) | ((with_reducible apply wk_gdJ); (focus (first | ((simp (disch := omega) only [J_lit, J_add, J_sub, J_mul, J_neg, J_n, jle, jlt, jeq, jnn, jnat, Int.toNat_natCast, bJ_0, bJ_1, bft, gd_T, nar_J, nar_0, nar_1, if_true, if_false, Option.bind_some, gd_t, h_size h.sgL, h_isIn]); rfl) | rfl)); (focus (first | exact True.intro | assumption | (first | exact vp_J (by omega) (by omega) (by omega) | omega)))) | ((with_reducible apply wk_ifJT); (focus (first | ((simp (disch := omega) only [J_lit, J_add, J_sub, J_mul, J_neg, J_n, jle, jlt, jeq, jnn, jnat, Int.toNat_natCast, bJ_0, bJ_1, bft, gd_T, nar_J, nar_0, nar_1, if_true, if_false, Option.bind_some, gd_t, decide_eq_false_iff_not, decide_eq_true_eq, h_size h.sgL, h_isIn]); rfl) | rfl)); (focus (first | exact True.intro | omega))) | ((with_reducible apply wk_ifJF); (focus (first | ((simp (disch := omega) only [J_lit, J_add, J_sub, J_mul, J_neg, J_n, jle, jlt, jeq, jnn, jnat, Int.toNat_natCast, bJ_0, bJ_1, bft, gd_T, nar_J, nar_0, nar_1, if_true, if_false, Option.bind_some, gd_t, decide_eq_false_iff_not, decide_eq_true_eq, h_size h.sgL, h_isIn]); rfl) | rfl)); (focus (first | exact not_false | omega))) | ((with_reducible apply wk_ifJ); (focus (first | ((simp (disch := omega) only [J_lit, J_add, J_sub, J_mul, J_neg, J_n, jle, jlt, jeq, jnn, jnat, Int.toNat_natCast, bJ_0, bJ_1, bft, gd_T, nar_J, nar_0, nar_1, if_true, if_false, Option.bind_some, gd_t, decide_eq_false_iff_not, decide_eq_true_eq, h_size h.sgL, h_isIn]); rfl) | rfl)); all_goals intro _) | (with_reducible apply wk_some0) | ((with_reducible apply wk_eli); try dsimp only) | ((with_reducible apply wk_elr); try dsimp only) | ((with_reducible apply wk_costS); (focus ((try dsimp only); omega)); (focus ((try dsimp only); omega)); try dsimp only) | ((with_reducible apply wk_bindE); (focus ((simp (disch := omega) only [J_lit, J_add, J_sub, J_mul, J_neg, J_n, jle, jlt, jeq, jnn, jnat, Int.toNat_natCast, bJ_0, bJ_1, bft, gd_T, nar_J, nar_0, nar_1, if_true, if_false, Option.bind_some, gd_t, h_size h.sgL, h_isIn]); rfl)); try dsimp only) | (with_reducible apply wk_bind) | (first | ((with_reducible apply wp_let); try dsimp only) | ((with_reducible apply wp_gdJ); (focus (first | ((simp (disch := omega) only [J_lit, J_add, J_sub, J_mul, J_neg, J_n, jle, jlt, jeq, jnn, jnat, Int.toNat_natCast, bJ_0, bJ_1, bft, gd_T, nar_J, nar_0, nar_1, if_true, if_false, Option.bind_some, gd_t, h_size h.sgL, h_isIn]); rfl) | rfl)); (focus (first | exact True.intro | (first | exact vp_J (by omega) (by omega) (by omega) | omega)))) | ((with_reducible apply wp_ifJT); (focus (first | ((simp (disch := omega) only [J_lit, J_add, J_sub, J_mul, J_neg, J_n, jle, jlt, jeq, jnn, jnat, Int.toNat_natCast, bJ_0, bJ_1, bft, gd_T, nar_J, nar_0, nar_1, if_true, if_false, Option.bind_some, gd_t, decide_eq_false_iff_not, decide_eq_true_eq, h_size h.sgL, h_isIn]); rfl) | rfl)); (focus (first | exact True.intro | omega))) | ((with_reducible apply wp_ifJF); (focus (first | ((simp (disch := omega) only [J_lit, J_add, J_sub, J_mul, J_neg, J_n, jle, jlt, jeq, jnn, jnat, Int.toNat_natCast, bJ_0, bJ_1, bft, gd_T, nar_J, nar_0, nar_1, if_true, if_false, Option.bind_some, gd_t, decide_eq_false_iff_not, decide_eq_true_eq, h_size h.sgL, h_isIn]); rfl) | rfl)); (focus (first | exact not_false | omega))) | ((with_reducible apply wp_ifJ); (focus (first | ((simp (disch := omega) only [J_lit, J_add, J_sub, J_mul, J_neg, J_n, jle, jlt, jeq, jnn, jnat, Int.toNat_natCast, bJ_0, bJ_1, bft, gd_T, nar_J, nar_0, nar_1, if_true, if_false, Option.bind_some, gd_t, decide_eq_false_iff_not, decide_eq_true_eq, h_size h.sgL, h_isIn]); rfl) | rfl)); all_goals intro _) | (with_reducible apply wp_some) | ((with_reducible apply wp_eli); try dsimp only) | ((with_reducible apply wp_elr); try dsimp only) | ((with_reducible apply wp_bindE); (focus ((simp (disch := omega) only [J_lit, J_add, J_sub, J_mul, J_neg, J_n, jle, jlt, jeq, jnn, jnat, Int.toNat_natCast, bJ_0, bJ_1, bft, gd_T, nar_J, nar_0, nar_1, if_true, if_false, Option.bind_some, gd_t, h_size h.sgL, h_isIn]); rfl)); try dsimp only) | (with_reducible apply wp_bind)))); all_goals (try (simp (disch := omega) only [J_lit, J_add, J_sub, J_mul, J_neg, J_n, jle, jlt, jeq, jnn, jnat, Int.toNat_natCast, bJ_0, bJ_1, bft, gd_T, nar_J, nar_0, nar_1, if_true, if_false, Option.bind_some, gd_t, h_size h.sgL, h_isIn])))
    first | exact same (by omega) | exact wk_some0 (same (by omega))
end
end
