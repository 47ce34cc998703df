noncomputable section
set_option linter.unusedVariables false
set_option linter.unusedSimpArgs false
/-! PLAIN 49: the house's table is laid out -/
/-- ordered is written -/
def f17 (FI : OhI) (v : Int32) : OhI := sA FI 0 0 (uA (FI 0 0) 17 v)
theorem f17_at (FI : OhI) (v : Int32) : f17 FI v 0 0 17 = v := by unfold f17; rw [sA_same, uA_same]
theorem f17_ne (FI : OhI) (v : Int32) {k : Nat} (h : k ≠ 17) : f17 FI v 0 0 k = FI 0 0 k := by unfold f17; rw [sA_same, uA_ne _ _ h]
theorem f17_ob (FI : OhI) (v : Int32) {a : Rf} (h : ohKd a.1 ≠ 0) : f17 FI v a.1 a.2 = FI a.1 a.2 := by unfold f17; rw [sA_ne _ _ (by rintro ⟨q, _⟩; rw [q] at h; exact h (by decide))]
theorem f17_17 (FI : OhI) (v w : Int32) : f17 (f17 FI v) w = f17 FI w := by
  unfold f17
  rw [sA_sA, sA_same]
  congr 1
  funext j
  by_cases e : j = 17 <;> simp [uA_at, e]
theorem HCl.f17_ {x : PCa} {k : Nat} {a : Rf} {Z : PZ} {FI : OhI} {FR : OhQ} (h : HCl x k a Z FI FR) (v : Int32) : HCl x k a Z (f17 FI v) FR := by
  have e := f17_ob FI v (a := a) (by rw [h.kd]; decide)
  exact ⟨h.kd, by rw [e]; exact h.num, by rw [e]; exact h.day, by rw [e]; exact h.kind, by rw [e]; exact h.halves, by rw [e]; exact h.beg, by rw [e]; exact h.fin, h.op⟩
section
variable {Z : PZ} {FI : OhI} {FR GR : OhQ} {AI : OhI} {AR BR : OhQ} {AN : OhN} {n : Nat} {ca : Nat → PCa}
theorem h_enter (hn : 10000 ≤ n) {m : Nat} (hm : m < 66) (hcl : ∀ c, c ≤ m → HCl (ca c) c (Z.c c) Z FI FR) (hb : ∀ c, c ≤ m → -1 ≤ (ca c).beg ∧ (ca c).beg ≤ 1000) (h17 : FI 0 0 17 = J (m : Int)) (hord : ∀ k, k < m → BR 316 0 k = some (Z.c (ordN (fun c => (ca c).beg) m k))) :
    ∃ f A, mX1_enter n FI FR AI AR BR AN (some (Z.c m)) = some (f17 FI (J ((m + 1 : Nat) : Int)), A, sA BR 316 0 f) ∧ (∀ k, k < m + 1 → f k = some (Z.c (ordN (fun c => (ca c).beg) (m + 1) k))) ∧ eqx [419, 420, 421] AI A ∧ (∀ s, s ∈ [419, 420, 421] → (∀ r, r < 8 → A s m r = J (-1)) ∧ ∀ c, c ≠ m → A s c = AI s c) := by
  obtain ⟨a1, a2, a3, a4, a5, a6⟩ := ordN_all (fun c => (ca c).beg) m
  have eo : ∀ k, ordN (fun c => (ca c).beg) (m + 1) k = if k < insAt (fun c => (ca c).beg) (ordN (fun c => (ca c).beg) m) (ca m).beg m then ordN (fun c => (ca c).beg) m k else if k = insAt (fun c => (ca c).beg) (ordN (fun c => (ca c).beg) m) (ca m).beg m then m else ordN (fun c => (ca c).beg) m (k - 1) := fun k => rfl
  generalize hod : ordN (fun c => (ca c).beg) m = od at a1 a2 a3 a4 a5 a6 hord eo
  have hbm := hb m (Nat.le_refl _)
  have hcm := hcl m (Nat.le_refl _)
  have eDm : oD 14 (some (Z.c m)) = some (Z.c m) := oD_of hcm.kd
  have k1 : wp (lpF (fun v : Int32 × OhQ => mX1_enter_b5 n FI FR AI AR v.2 AN (some (Z.c m)) v.1) n (J (m : Int), BR)) (fun r => ∃ f : Nat → OhR, r = (J (insAt (fun c => (ca c).beg) od (ca m).beg m), sA BR 316 0 f) ∧ ∀ k, k ≤ m → k ≠ insAt (fun c => (ca c).beg) od (ca m).beg m → f k = some (Z.c (ordN (fun c => (ca c).beg) (m + 1) k))) := by
    refine wp_lp (fun a => a.1.toNatClampNeg) (fun a => ∃ (i : Nat) (f : Nat → OhR), i ≤ m ∧ a = (J i, sA BR 316 0 f) ∧ insAt (fun c => (ca c).beg) od (ca m).beg m = insAt (fun c => (ca c).beg) od (ca m).beg i ∧ (∀ k, k < i → f k = some (Z.c (od k))) ∧ (∀ k, i < k → k ≤ m → f k = some (Z.c (od (k - 1))))) ?_ ⟨m, BR 316 0, Nat.le_refl _, ?_, rfl, hord, fun k h1 h2 => by omega⟩ (by show (J (m : Int)).toNatClampNeg < n; rw [jnn (by omega)]; omega)
    · rintro a ⟨i, f, hi, rfl, he, hl, hr⟩
      dsimp only
      rw [jnn (by omega)]
      cases i with
      | zero =>
        unfold mX1_enter_b5
        ((repeat' (first | ((with_reducible apply wp_let); try dsimp only) | ((with_reducible apply wp_gdJ); (focus (first | ((simp (disch := omega) only [J_lit, J_add, J_sub, J_mul, J_neg, J_n, jle, jlt, jeq, jnn, jnat, Int.toNat_natCast, bJ_0, bJ_1, bft, gd_T, nar_J, nar_0, nar_1, if_true, if_false, Option.bind_some, gd_t]); rfl) | rfl)); (focus (first | exact True.intro | (first | exact vp_J (by omega) (by omega) (by omega) | omega)))) | ((with_reducible apply wp_ifJT); (focus (first | ((simp (disch := omega) only [J_lit, J_add, J_sub, J_mul, J_neg, J_n, jle, jlt, jeq, jnn, jnat, Int.toNat_natCast, bJ_0, bJ_1, bft, gd_T, nar_J, nar_0, nar_1, if_true, if_false, Option.bind_some, gd_t, decide_eq_false_iff_not, decide_eq_true_eq]); rfl) | rfl)); (focus (first | exact True.intro | omega))) | ((with_reducible apply wp_ifJF); (focus (first | ((simp (disch := omega) only [J_lit, J_add, J_sub, J_mul, J_neg, J_n, jle, jlt, jeq, jnn, jnat, Int.toNat_natCast, bJ_0, bJ_1, bft, gd_T, nar_J, nar_0, nar_1, if_true, if_false, Option.bind_some, gd_t, decide_eq_false_iff_not, decide_eq_true_eq]); rfl) | rfl)); (focus (first | exact not_false | omega))) | ((with_reducible apply wp_ifJ); (focus (first | ((simp (disch := omega) only [J_lit, J_add, J_sub, J_mul, J_neg, J_n, jle, jlt, jeq, jnn, jnat, Int.toNat_natCast, bJ_0, bJ_1, bft, gd_T, nar_J, nar_0, nar_1, if_true, if_false, Option.bind_some, gd_t, decide_eq_false_iff_not, decide_eq_true_eq]); rfl) | rfl)); all_goals intro _) | (with_reducible apply wp_some) | ((with_reducible apply wp_eli); try dsimp only) | ((with_reducible apply wp_elr); try dsimp only) | ((with_reducible apply wp_bindE); (focus ((simp (disch := omega) only [J_lit, J_add, J_sub, J_mul, J_neg, J_n, jle, jlt, jeq, jnn, jnat, Int.toNat_natCast, bJ_0, bJ_1, bft, gd_T, nar_J, nar_0, nar_1, if_true, if_false, Option.bind_some, gd_t]); rfl)); try dsimp only) | (with_reducible apply wp_bind))); all_goals (try (simp (disch := omega) only [J_lit, J_add, J_sub, J_mul, J_neg, J_n, jle, jlt, jeq, jnn, jnat, Int.toNat_natCast, bJ_0, bJ_1, bft, gd_T, nar_J, nar_0, nar_1, if_true, if_false, Option.bind_some, gd_t])))
        refine ⟨f, ?_, fun k h1 h2 => ?_⟩
        · rw [he]; rfl
        · have h3 : insAt (fun c => (ca c).beg) od (ca m).beg m = 0 := he
          rw [h3] at h2
          rw [hr k (by omega) h1, eo, h3, if_neg (by omega), if_neg h2]
      | succ i =>
        have ho := a1 i (by omega)
        have hb2 := hb (od i) (by omega)
        have hco := hcl (od i) (by omega)
        have e2 : sA BR 316 0 f 316 0 i = some (Z.c (od i)) := by rw [sA_same]; exact hl i (by omega)
        have e3 : oD 14 (some (Z.c (od i))) = some (Z.c (od i)) := oD_of hco.kd
        rw [show ((i + 1 : Nat) : Int) = (i : Int) + 1 by omega]
        unfold mX1_enter_b5
        ((repeat' (first | ((with_reducible apply wp_let); try dsimp only) | ((with_reducible apply wp_gdJ); (focus (first | ((simp (disch := omega) only [J_lit, J_add, J_sub, J_mul, J_neg, J_n, jle, jlt, jeq, jnn, jnat, Int.toNat_natCast, bJ_0, bJ_1, bft, gd_T, nar_J, nar_0, nar_1, if_true, if_false, Option.bind_some, gd_t, e2, e3, eDm, hco.beg, hcm.beg, natS, natP]); rfl) | rfl)); (focus (first | exact True.intro | (first | exact vp_J (by omega) (by omega) (by omega) | omega)))) | ((with_reducible apply wp_ifJT); (focus (first | ((simp (disch := omega) only [J_lit, J_add, J_sub, J_mul, J_neg, J_n, jle, jlt, jeq, jnn, jnat, Int.toNat_natCast, bJ_0, bJ_1, bft, gd_T, nar_J, nar_0, nar_1, if_true, if_false, Option.bind_some, gd_t, decide_eq_false_iff_not, decide_eq_true_eq, e2, e3, eDm, hco.beg, hcm.beg, natS, natP]); rfl) | rfl)); (focus (first | exact True.intro | omega))) | ((with_reducible apply wp_ifJF); (focus (first | ((simp (disch := omega) only [J_lit, J_add, J_sub, J_mul, J_neg, J_n, jle, jlt, jeq, jnn, jnat, Int.toNat_natCast, bJ_0, bJ_1, bft, gd_T, nar_J, nar_0, nar_1, if_true, if_false, Option.bind_some, gd_t, decide_eq_false_iff_not, decide_eq_true_eq, e2, e3, eDm, hco.beg, hcm.beg, natS, natP]); rfl) | rfl)); (focus (first | exact not_false | omega))) | ((with_reducible apply wp_ifJ); (focus (first | ((simp (disch := omega) only [J_lit, J_add, J_sub, J_mul, J_neg, J_n, jle, jlt, jeq, jnn, jnat, Int.toNat_natCast, bJ_0, bJ_1, bft, gd_T, nar_J, nar_0, nar_1, if_true, if_false, Option.bind_some, gd_t, decide_eq_false_iff_not, decide_eq_true_eq, e2, e3, eDm, hco.beg, hcm.beg, natS, natP]); rfl) | rfl)); all_goals intro _) | (with_reducible apply wp_some) | ((with_reducible apply wp_eli); try dsimp only) | ((with_reducible apply wp_elr); try dsimp only) | ((with_reducible apply wp_bindE); (focus ((simp (disch := omega) only [J_lit, J_add, J_sub, J_mul, J_neg, J_n, jle, jlt, jeq, jnn, jnat, Int.toNat_natCast, bJ_0, bJ_1, bft, gd_T, nar_J, nar_0, nar_1, if_true, if_false, Option.bind_some, gd_t, e2, e3, eDm, hco.beg, hcm.beg, natS, natP]); rfl)); try dsimp only) | (with_reducible apply wp_bind))); all_goals (try (simp (disch := omega) only [J_lit, J_add, J_sub, J_mul, J_neg, J_n, jle, jlt, jeq, jnn, jnat, Int.toNat_natCast, bJ_0, bJ_1, bft, gd_T, nar_J, nar_0, nar_1, if_true, if_false, Option.bind_some, gd_t, e2, e3, eDm, hco.beg, hcm.beg, natS, natP])))
        · have h3 : insAt (fun c => (ca c).beg) od (ca m).beg m = i + 1 := by
            rw [he]; simp only [insAt]; rw [if_neg (by omega)]
          refine ⟨f, ?_, fun k h1 h2 => ?_⟩
          · rw [h3]; rfl
          · rw [h3] at h2
            by_cases q : k < i + 1
            · rw [hl k q, eo, h3, if_pos q]
            · rw [hr k (by omega) h1, eo, h3, if_neg q, if_neg h2]
        · refine ⟨⟨i, uA f (i + 1) (some (Z.c (od i))), by omega, ?_, ?_, ?_, ?_⟩, ?_⟩
          · rw [sA_sA, sA_same, show ((i : Int) + 1 + -1) = i by omega]
          · rw [he]; simp only [insAt]; rw [if_pos (by omega)]
          · intro k hk; rw [uA_ne _ _ (by omega)]; exact hl k (by omega)
          · intro k h1 h2
            by_cases q : k = i + 1
            · subst q; rw [uA_same, Nat.add_sub_cancel]
            · rw [uA_ne _ _ q]; exact hr k (by omega) h2
          · rw [show ((i : Int) + 1 + -1) = i by omega, jnn (by omega)]; omega
    · congr 1
      funext s i
      by_cases q : s = 316 ∧ i = 0
      · rw [q.1, q.2, sA_same]
      · rw [sA_ne _ _ q]
  obtain ⟨r, e1, f, rfl, hf⟩ := k1
  have hj := insAt_le (bg := fun c => (ca c).beg) (od := od) (b := (ca m).beg) m
  generalize hJ : insAt (fun c => (ca c).beg) od (ca m).beg m = j at e1 hf eo hj
  have k2 : ∀ F : OhI, F = f17 FI (J ((m + 1 : Nat) : Int)) → ∀ B : OhQ, wp (lpF (fun v : Int32 × OhI => mX1_enter_b66 n F FR v.2 AR B AN (some (Z.c m)) v.1) n (J 0, AI)) (fun A => eqx [419, 420, 421] AI A ∧ (∀ s, s ∈ [419, 420, 421] → (∀ r, r < 8 → A s m r = J (-1)) ∧ ∀ c, c ≠ m → A s c = AI s c)) := by
    intro F hF B
    have en : F (Z.c m).1 (Z.c m).2 0 = J (m : Int) := by rw [hF]; exact (hcm.f17_ _).num
    refine wp_for 8 (fun i a => ∃ A, a = (J (i : Int), A) ∧ eqx [419, 420, 421] AI A ∧ (∀ s, s ∈ [419, 420, 421] → (∀ r, r < i → A s m r = J (-1)) ∧ ∀ c, c ≠ m → A s c = AI s c)) ?_ (k0 := 0) ⟨AI, rfl, eqx_refl, fun s _ => ⟨fun r hr => by omega, fun _ _ => rfl⟩⟩ (by omega) (by omega)
    rintro i a hi ⟨A, rfl, x, hA⟩
    dsimp only
    unfold mX1_enter_b66
    by_cases e : i = 8
    · subst e
      ((repeat' (first | ((with_reducible apply wp_let); try dsimp only) | ((with_reducible apply wp_gdJ); (focus (first | ((simp (disch := omega) only [J_lit, J_add, J_sub, J_mul, J_neg, J_n, jle, jlt, jeq, jnn, jnat, Int.toNat_natCast, bJ_0, bJ_1, bft, gd_T, nar_J, nar_0, nar_1, if_true, if_false, Option.bind_some, gd_t]); rfl) | rfl)); (focus (first | exact True.intro | (first | exact vp_J (by omega) (by omega) (by omega) | omega)))) | ((with_reducible apply wp_ifJT); (focus (first | ((simp (disch := omega) only [J_lit, J_add, J_sub, J_mul, J_neg, J_n, jle, jlt, jeq, jnn, jnat, Int.toNat_natCast, bJ_0, bJ_1, bft, gd_T, nar_J, nar_0, nar_1, if_true, if_false, Option.bind_some, gd_t, decide_eq_false_iff_not, decide_eq_true_eq]); rfl) | rfl)); (focus (first | exact True.intro | omega))) | ((with_reducible apply wp_ifJF); (focus (first | ((simp (disch := omega) only [J_lit, J_add, J_sub, J_mul, J_neg, J_n, jle, jlt, jeq, jnn, jnat, Int.toNat_natCast, bJ_0, bJ_1, bft, gd_T, nar_J, nar_0, nar_1, if_true, if_false, Option.bind_some, gd_t, decide_eq_false_iff_not, decide_eq_true_eq]); rfl) | rfl)); (focus (first | exact not_false | omega))) | ((with_reducible apply wp_ifJ); (focus (first | ((simp (disch := omega) only [J_lit, J_add, J_sub, J_mul, J_neg, J_n, jle, jlt, jeq, jnn, jnat, Int.toNat_natCast, bJ_0, bJ_1, bft, gd_T, nar_J, nar_0, nar_1, if_true, if_false, Option.bind_some, gd_t, decide_eq_false_iff_not, decide_eq_true_eq]); rfl) | rfl)); all_goals intro _) | (with_reducible apply wp_some) | ((with_reducible apply wp_eli); try dsimp only) | ((with_reducible apply wp_elr); try dsimp only) | ((with_reducible apply wp_bindE); (focus ((simp (disch := omega) only [J_lit, J_add, J_sub, J_mul, J_neg, J_n, jle, jlt, jeq, jnn, jnat, Int.toNat_natCast, bJ_0, bJ_1, bft, gd_T, nar_J, nar_0, nar_1, if_true, if_false, Option.bind_some, gd_t]); rfl)); try dsimp only) | (with_reducible apply wp_bind))); all_goals (try (simp (disch := omega) only [J_lit, J_add, J_sub, J_mul, J_neg, J_n, jle, jlt, jeq, jnn, jnat, Int.toNat_natCast, bJ_0, bJ_1, bft, gd_T, nar_J, nar_0, nar_1, if_true, if_false, Option.bind_some, gd_t])))
      exact ⟨x, hA⟩
    · ((repeat' (first | ((with_reducible apply wp_let); try dsimp only) | ((with_reducible apply wp_gdJ); (focus (first | ((simp (disch := omega) only [J_lit, J_add, J_sub, J_mul, J_neg, J_n, jle, jlt, jeq, jnn, jnat, Int.toNat_natCast, bJ_0, bJ_1, bft, gd_T, nar_J, nar_0, nar_1, if_true, if_false, Option.bind_some, gd_t, eDm, en]); rfl) | rfl)); (focus (first | exact True.intro | (first | exact vp_J (by omega) (by omega) (by omega) | omega)))) | ((with_reducible apply wp_ifJT); (focus (first | ((simp (disch := omega) only [J_lit, J_add, J_sub, J_mul, J_neg, J_n, jle, jlt, jeq, jnn, jnat, Int.toNat_natCast, bJ_0, bJ_1, bft, gd_T, nar_J, nar_0, nar_1, if_true, if_false, Option.bind_some, gd_t, decide_eq_false_iff_not, decide_eq_true_eq, eDm, en]); rfl) | rfl)); (focus (first | exact True.intro | omega))) | ((with_reducible apply wp_ifJF); (focus (first | ((simp (disch := omega) only [J_lit, J_add, J_sub, J_mul, J_neg, J_n, jle, jlt, jeq, jnn, jnat, Int.toNat_natCast, bJ_0, bJ_1, bft, gd_T, nar_J, nar_0, nar_1, if_true, if_false, Option.bind_some, gd_t, decide_eq_false_iff_not, decide_eq_true_eq, eDm, en]); rfl) | rfl)); (focus (first | exact not_false | omega))) | ((with_reducible apply wp_ifJ); (focus (first | ((simp (disch := omega) only [J_lit, J_add, J_sub, J_mul, J_neg, J_n, jle, jlt, jeq, jnn, jnat, Int.toNat_natCast, bJ_0, bJ_1, bft, gd_T, nar_J, nar_0, nar_1, if_true, if_false, Option.bind_some, gd_t, decide_eq_false_iff_not, decide_eq_true_eq, eDm, en]); rfl) | rfl)); all_goals intro _) | (with_reducible apply wp_some) | ((with_reducible apply wp_eli); try dsimp only) | ((with_reducible apply wp_elr); try dsimp only) | ((with_reducible apply wp_bindE); (focus ((simp (disch := omega) only [J_lit, J_add, J_sub, J_mul, J_neg, J_n, jle, jlt, jeq, jnn, jnat, Int.toNat_natCast, bJ_0, bJ_1, bft, gd_T, nar_J, nar_0, nar_1, if_true, if_false, Option.bind_some, gd_t, eDm, en]); rfl)); try dsimp only) | (with_reducible apply wp_bind))); all_goals (try (simp (disch := omega) only [J_lit, J_add, J_sub, J_mul, J_neg, J_n, jle, jlt, jeq, jnn, jnat, Int.toNat_natCast, bJ_0, bJ_1, bft, gd_T, nar_J, nar_0, nar_1, if_true, if_false, Option.bind_some, gd_t, eDm, en])))
      refine ⟨by omega, _, rfl, eqx_trans x (eqx_trans (eqx_sA (by decide)) (eqx_trans (eqx_sA (by decide)) (eqx_sA (by decide)))), fun s hs => ?_⟩
      obtain ⟨q1, q2⟩ := hA s hs
      have hs3 : s = 419 ∨ s = 420 ∨ s = 421 := by simpa using hs
      refine ⟨fun r hr => ?_, fun c hc => ?_⟩
      · rcases hs3 with rfl | rfl | rfl <;> (by_cases q : r = i; · subst q; simp [sA_at, uA_at]
                                             · have := q1 r (by omega); simp [sA_at, uA_at, q, this])
      · rw [← q2 c hc]
        rcases hs3 with rfl | rfl | rfl <;> (funext r; simp [sA_at, hc])
  obtain ⟨A, e2, xA, hA⟩ := k2 _ rfl (sA (sA BR 316 0 f) 316 0 (uA f j (some (Z.c m))))
  refine ⟨uA f j (some (Z.c m)), A, wp_eq ?_, fun k hk => ?_, xA, hA⟩
  · unfold mX1_enter mX1_enter_j47
    have eF : sA FI 0 0 (uA (FI 0 0) 17 (J ((m : Int) + 1))) = f17 FI (J ((m + 1 : Nat) : Int)) := rfl
    have hor : (some (Z.c m) = none ∨ ∃ b, some (Z.c m) = some b) = True := by simp
    ((repeat' (first | ((with_reducible apply wp_let); try dsimp only) | ((with_reducible apply wp_gdJ); (focus (first | ((simp (disch := omega) only [J_lit, J_add, J_sub, J_mul, J_neg, J_n, jle, jlt, jeq, jnn, jnat, Int.toNat_natCast, bJ_0, bJ_1, bft, gd_T, nar_J, nar_0, nar_1, if_true, if_false, Option.bind_some, gd_t, h17, e1, sA_same, eF, eDm, hor, e2]); rfl) | rfl)); (focus (first | exact True.intro | (first | exact vp_J (by omega) (by omega) (by omega) | omega)))) | ((with_reducible apply wp_ifJT); (focus (first | ((simp (disch := omega) only [J_lit, J_add, J_sub, J_mul, J_neg, J_n, jle, jlt, jeq, jnn, jnat, Int.toNat_natCast, bJ_0, bJ_1, bft, gd_T, nar_J, nar_0, nar_1, if_true, if_false, Option.bind_some, gd_t, decide_eq_false_iff_not, decide_eq_true_eq, h17, e1, sA_same, eF, eDm, hor, e2]); rfl) | rfl)); (focus (first | exact True.intro | omega))) | ((with_reducible apply wp_ifJF); (focus (first | ((simp (disch := omega) only [J_lit, J_add, J_sub, J_mul, J_neg, J_n, jle, jlt, jeq, jnn, jnat, Int.toNat_natCast, bJ_0, bJ_1, bft, gd_T, nar_J, nar_0, nar_1, if_true, if_false, Option.bind_some, gd_t, decide_eq_false_iff_not, decide_eq_true_eq, h17, e1, sA_same, eF, eDm, hor, e2]); rfl) | rfl)); (focus (first | exact not_false | omega))) | ((with_reducible apply wp_ifJ); (focus (first | ((simp (disch := omega) only [J_lit, J_add, J_sub, J_mul, J_neg, J_n, jle, jlt, jeq, jnn, jnat, Int.toNat_natCast, bJ_0, bJ_1, bft, gd_T, nar_J, nar_0, nar_1, if_true, if_false, Option.bind_some, gd_t, decide_eq_false_iff_not, decide_eq_true_eq, h17, e1, sA_same, eF, eDm, hor, e2]); rfl) | rfl)); all_goals intro _) | (with_reducible apply wp_some) | ((with_reducible apply wp_eli); try dsimp only) | ((with_reducible apply wp_elr); try dsimp only) | ((with_reducible apply wp_bindE); (focus ((simp (disch := omega) only [J_lit, J_add, J_sub, J_mul, J_neg, J_n, jle, jlt, jeq, jnn, jnat, Int.toNat_natCast, bJ_0, bJ_1, bft, gd_T, nar_J, nar_0, nar_1, if_true, if_false, Option.bind_some, gd_t, h17, e1, sA_same, eF, eDm, hor, e2]); rfl)); try dsimp only) | (with_reducible apply wp_bind))); all_goals (try (simp (disch := omega) only [J_lit, J_add, J_sub, J_mul, J_neg, J_n, jle, jlt, jeq, jnn, jnat, Int.toNat_natCast, bJ_0, bJ_1, bft, gd_T, nar_J, nar_0, nar_1, if_true, if_false, Option.bind_some, gd_t, h17, e1, sA_same, eF, eDm, hor, e2])))
    rw [sA_sA]
  · by_cases q : k = j
    · subst q; rw [uA_same, eo, if_neg (by omega), if_pos rfl]
    · rw [uA_ne _ _ q]; exact hf k (by omega) q
/-- a row's place is overwritten -/
def hCs (n site : Nat) (f : Nat → Nat → Int) (A : OhI) : Prop := ∀ c r, c < n → r < 8 → A site c r = J (f c r)
theorem hCs_up {n site c r : Nat} {f : Nat → Nat → Int} {A : OhI} {v : Int} (h : hCs n site f A) : hCs n site (upT f c r v) (sA A site c (uA (A site c) r (J v))) := by
  intro c2 r2 h1 h2
  have := h c2 r2 h1 h2
  by_cases q : c2 = c
  · subst q
    rw [sA_same]
    by_cases q2 : r2 = r
    · subst q2; rw [uA_same]; simp [upT]
    · rw [uA_ne _ _ q2, this]; simp [upT, q2]
  · rw [sA_idx _ _ q, this]; simp [upT, q]
theorem hCs_ne {n site s2 c : Nat} {f : Nat → Nat → Int} {A : OhI} {g : Nat → Int32} (h : hCs n site f A) (q : site ≠ s2) : hCs n site f (sA A s2 c g) := by
  intro c2 r2 h1 h2
  rw [sA_site _ _ _ q]; exact h c2 r2 h1 h2
theorem h_give {c r : Nat} {v : Int} (hc : c < 66) (hr : r < 8) : mX1_give FR AI AR BR AN (J c) (J r) (J v) = some (sA (sA AI 420 c (uA (AI 420 c) r (AI 419 c r))) 419 c (uA (AI 419 c) r (J v))) := by
  apply wp_eq
  unfold mX1_give
  ((repeat' (first | ((with_reducible apply wp_let); try dsimp only) | ((with_reducible apply wp_gdJ); (focus (first | ((simp (disch := omega) only [J_lit, J_add, J_sub, J_mul, J_neg, J_n, jle, jlt, jeq, jnn, jnat, Int.toNat_natCast, bJ_0, bJ_1, bft, gd_T, nar_J, nar_0, nar_1, if_true, if_false, Option.bind_some, gd_t]); rfl) | rfl)); (focus (first | exact True.intro | (first | exact vp_J (by omega) (by omega) (by omega) | omega)))) | ((with_reducible apply wp_ifJT); (focus (first | ((simp (disch := omega) only [J_lit, J_add, J_sub, J_mul, J_neg, J_n, jle, jlt, jeq, jnn, jnat, Int.toNat_natCast, bJ_0, bJ_1, bft, gd_T, nar_J, nar_0, nar_1, if_true, if_false, Option.bind_some, gd_t, decide_eq_false_iff_not, decide_eq_true_eq]); rfl) | rfl)); (focus (first | exact True.intro | omega))) | ((with_reducible apply wp_ifJF); (focus (first | ((simp (disch := omega) only [J_lit, J_add, J_sub, J_mul, J_neg, J_n, jle, jlt, jeq, jnn, jnat, Int.toNat_natCast, bJ_0, bJ_1, bft, gd_T, nar_J, nar_0, nar_1, if_true, if_false, Option.bind_some, gd_t, decide_eq_false_iff_not, decide_eq_true_eq]); rfl) | rfl)); (focus (first | exact not_false | omega))) | ((with_reducible apply wp_ifJ); (focus (first | ((simp (disch := omega) only [J_lit, J_add, J_sub, J_mul, J_neg, J_n, jle, jlt, jeq, jnn, jnat, Int.toNat_natCast, bJ_0, bJ_1, bft, gd_T, nar_J, nar_0, nar_1, if_true, if_false, Option.bind_some, gd_t, decide_eq_false_iff_not, decide_eq_true_eq]); rfl) | rfl)); all_goals intro _) | (with_reducible apply wp_some) | ((with_reducible apply wp_eli); try dsimp only) | ((with_reducible apply wp_elr); try dsimp only) | ((with_reducible apply wp_bindE); (focus ((simp (disch := omega) only [J_lit, J_add, J_sub, J_mul, J_neg, J_n, jle, jlt, jeq, jnn, jnat, Int.toNat_natCast, bJ_0, bJ_1, bft, gd_T, nar_J, nar_0, nar_1, if_true, if_false, Option.bind_some, gd_t]); rfl)); try dsimp only) | (with_reducible apply wp_bind))); all_goals (try (simp (disch := omega) only [J_lit, J_add, J_sub, J_mul, J_neg, J_n, jle, jlt, jeq, jnn, jnat, Int.toNat_natCast, bJ_0, bJ_1, bft, gd_T, nar_J, nar_0, nar_1, if_true, if_false, Option.bind_some, gd_t])))
  rw [sA_site _ _ _ (by decide)]
end
section
variable {S : PSt} {Z : PZ} {FI : OhI} {FR GR : OhQ} {AI : OhI} {AR BR : OhQ} {AN : OhN} {n : Nat}
/-- what the house keeps of its calls -/
def HCore (S : PSt) (Z : PZ) (FI : OhI) (FR GR : OhQ) (AI : OhI) (BR : OhQ) (AN : OhN) : Prop :=
  (HSt S Z FI FR GR AI BR AN) ∧
  (∀ c, c < S.nC → HCl (S.ca c) c (Z.c c) Z FI FR) ∧
  (∀ i j, i < S.nC → j < S.nC → Z.c i = Z.c j → i = j)
theorem HCore.mk {S : PSt} {Z : PZ} {FI : OhI} {FR GR : OhQ} {AI : OhI} {BR : OhQ} {AN : OhN}
    (toHSt : HSt S Z FI FR GR AI BR AN)
    (cls : ∀ c, c < S.nC → HCl (S.ca c) c (Z.c c) Z FI FR)
    (cij : ∀ i j, i < S.nC → j < S.nC → Z.c i = Z.c j → i = j) :
    HCore S Z FI FR GR AI BR AN := ⟨toHSt, cls, cij⟩
theorem HCore.toHSt {S : PSt} {Z : PZ} {FI : OhI} {FR GR : OhQ} {AI : OhI} {BR : OhQ} {AN : OhN} (h : HCore S Z FI FR GR AI BR AN) : HSt S Z FI FR GR AI BR AN := h.1
theorem HCore.cls {S : PSt} {Z : PZ} {FI : OhI} {FR GR : OhQ} {AI : OhI} {BR : OhQ} {AN : OhN} (h : HCore S Z FI FR GR AI BR AN) : ∀ c, c < S.nC → HCl (S.ca c) c (Z.c c) Z FI FR := h.2.1
theorem HCore.cij {S : PSt} {Z : PZ} {FI : OhI} {FR GR : OhQ} {AI : OhI} {BR : OhQ} {AN : OhN} (h : HCore S Z FI FR GR AI BR AN) : ∀ i j, i < S.nC → j < S.nC → Z.c i = Z.c j → i = j := h.2.2
theorem HCore.daily {S : PSt} {Z : PZ} {FI : OhI} {FR GR : OhQ} {AI : OhI} {BR : OhQ} {AN : OhN} (h : HCore S Z FI FR GR AI BR AN) : FI 0 0 4 = J S.daily := h.toHSt.daily
theorem HCore.weekly {S : PSt} {Z : PZ} {FI : OhI} {FR GR : OhQ} {AI : OhI} {BR : OhQ} {AN : OhN} (h : HCore S Z FI FR GR AI BR AN) : FI 0 0 5 = J S.weekly := h.toHSt.weekly
theorem HCore.today {S : PSt} {Z : PZ} {FI : OhI} {FR GR : OhQ} {AI : OhI} {BR : OhQ} {AN : OhN} (h : HCore S Z FI FR GR AI BR AN) : FI 0 0 3 = J S.today := h.toHSt.today
theorem HCore.one {S : PSt} {Z : PZ} {FI : OhI} {FR GR : OhQ} {AI : OhI} {BR : OhQ} {AN : OhN} (h : HCore S Z FI FR GR AI BR AN) : ∀ g, g < 4 → AI 307 0 g = J (S.one g) := h.toHSt.one
theorem HCore.other {S : PSt} {Z : PZ} {FI : OhI} {FR GR : OhQ} {AI : OhI} {BR : OhQ} {AN : OhN} (h : HCore S Z FI FR GR AI BR AN) : ∀ g, g < 4 → AI 308 0 g = J (S.other g) := h.toHSt.other
theorem HCore.opL {S : PSt} {Z : PZ} {FI : OhI} {FR GR : OhQ} {AI : OhI} {BR : OhQ} {AN : OhN} (h : HCore S Z FI FR GR AI BR AN) : hLs FI GR BR AN (309, 0) S.nO Z.o := h.toHSt.opL
theorem HCore.op {S : PSt} {Z : PZ} {FI : OhI} {FR GR : OhQ} {AI : OhI} {BR : OhQ} {AN : OhN} (h : HCore S Z FI FR GR AI BR AN) : ∀ o, o < S.nO → HOp (S.op o) o (Z.o o) FI FR GR AI BR AN := h.toHSt.op
theorem HCore.sgL {S : PSt} {Z : PZ} {FI : OhI} {FR GR : OhQ} {AI : OhI} {BR : OhQ} {AN : OhN} (h : HCore S Z FI FR GR AI BR AN) : hLs FI GR BR AN (310, 0) S.nS Z.s := h.toHSt.sgL
theorem HCore.sg {S : PSt} {Z : PZ} {FI : OhI} {FR GR : OhQ} {AI : OhI} {BR : OhQ} {AN : OhN} (h : HCore S Z FI FR GR AI BR AN) : ∀ s, s < S.nS → HSg (S.sg s) (S.ct s) s (Z.s s) FI FR GR BR AN := h.toHSt.sg
theorem HCore.caL {S : PSt} {Z : PZ} {FI : OhI} {FR GR : OhQ} {AI : OhI} {BR : OhQ} {AN : OhN} (h : HCore S Z FI FR GR AI BR AN) : hLs FI GR BR AN (311, 0) S.nC Z.c := h.toHSt.caL
theorem HCore.ptL {S : PSt} {Z : PZ} {FI : OhI} {FR GR : OhQ} {AI : OhI} {BR : OhQ} {AN : OhN} (h : HCore S Z FI FR GR AI BR AN) : hLs FI GR BR AN (312, 0) S.nP Z.p := h.toHSt.ptL
theorem HCore.pt {S : PSt} {Z : PZ} {FI : OhI} {FR GR : OhQ} {AI : OhI} {BR : OhQ} {AN : OhN} (h : HCore S Z FI FR GR AI BR AN) : ∀ k, k < S.nP → ohKd (Z.p k).1 = 15 ∧ FI (Z.p k).1 (Z.p k).2 0 = J ((S.pt k).call : Int) ∧ FI (Z.p k).1 (Z.p k).2 1 = J ((S.pt k).role : Int) ∧ FI (Z.p k).1 (Z.p k).2 2 = J (S.pt k).who ∧ FI (Z.p k).1 (Z.p k).2 3 = J (S.pt k).day ∧ FI (Z.p k).1 (Z.p k).2 4 = bJ (S.pt k).cover := h.toHSt.pt
theorem HCore.ilL {S : PSt} {Z : PZ} {FI : OhI} {FR GR : OhQ} {AI : OhI} {BR : OhQ} {AN : OhN} (h : HCore S Z FI FR GR AI BR AN) : hLs FI GR BR AN (313, 0) S.nI Z.i := h.toHSt.ilL
theorem HCore.il {S : PSt} {Z : PZ} {FI : OhI} {FR GR : OhQ} {AI : OhI} {BR : OhQ} {AN : OhN} (h : HCore S Z FI FR GR AI BR AN) : ∀ k, k < S.nI → ohKd (Z.i k).1 = 16 ∧ FI (Z.i k).1 (Z.i k).2 0 = J ((S.il k).s : Int) ∧ FI (Z.i k).1 (Z.i k).2 1 = J (S.il k).frm ∧ FI (Z.i k).1 (Z.i k).2 2 = J (S.il k).til ∧ FI (Z.i k).1 (Z.i k).2 3 = J (S.il k).day := h.toHSt.il
theorem HCore.leL {S : PSt} {Z : PZ} {FI : OhI} {FR GR : OhQ} {AI : OhI} {BR : OhQ} {AN : OhN} (h : HCore S Z FI FR GR AI BR AN) : hLs FI GR BR AN (314, 0) S.nL Z.l := h.toHSt.leL
theorem HCore.le {S : PSt} {Z : PZ} {FI : OhI} {FR GR : OhQ} {AI : OhI} {BR : OhQ} {AN : OhN} (h : HCore S Z FI FR GR AI BR AN) : ∀ k, k < S.nL → ohKd (Z.l k).1 = 13 ∧ FI (Z.l k).1 (Z.l k).2 0 = J ((S.le k).s : Int) ∧ FI (Z.l k).1 (Z.l k).2 1 = J ((S.le k).op : Int) ∧ FI (Z.l k).1 (Z.l k).2 2 = J ((S.le k).role : Int) ∧ FI (Z.l k).1 (Z.l k).2 3 = J (S.le k).hours ∧ FI (Z.l k).1 (Z.l k).2 4 = J (S.le k).day := h.toHSt.le
theorem HCore.oinj {S : PSt} {Z : PZ} {FI : OhI} {FR GR : OhQ} {AI : OhI} {BR : OhQ} {AN : OhN} (h : HCore S Z FI FR GR AI BR AN) : ∀ i j, i < S.nO → j < S.nO → Z.o i = Z.o j → i = j := h.toHSt.oinj
theorem HCore.congr {FI2 AI2 : OhI} {BR2 : OhQ} (h : HCore S Z FI FR GR AI BR AN) (x : HFr FI FI2 AI AI2 BR BR2) : HCore S Z FI2 FR GR AI2 BR2 AN := ⟨h.toHSt.congr x, fun c hc => (h.cls c hc).congr x, h.cij⟩
theorem HFr_scr {FI : OhI} {AI AI2 : OhI} {BR : OhQ} {L : List Nat} {w f} (e : eqx L AI AI2) (hL : ∀ s ∈ L, s ∉ [5, 307, 308]) (hw : ∀ k, k ∈ [3, 4, 5] → w k = FI 0 0 k) : HFr FI (sA FI 0 0 w) AI AI2 BR (sA BR 316 0 f) :=
  ⟨fun s i q1 q2 => sA_ne _ _ (by rintro ⟨rfl, _⟩; exact absurd q2 (by decide)), fun k hk => by rw [sA_same]; exact hw k hk, fun s hs => e s (fun q => hL s q hs), fun s q => sA_site _ _ _ (by rintro rfl; exact q (by decide))⟩
/-- the scalars that a table's laying out writes -/
def lyF (FI : OhI) (t : Int) (k : Nat) : OhI := sA FI 0 0 (uA (uA (FI 0 0) 18 (J t)) 17 (J (k : Int)))
theorem lyF_ne (FI : OhI) (t : Int) (k : Nat) {j : Nat} (h : j ≠ 17) (h2 : j ≠ 18) : lyF FI t k 0 0 j = FI 0 0 j := by unfold lyF; rw [sA_same, uA_ne _ _ h, uA_ne _ _ h2]
theorem lyF_17 (FI : OhI) (t : Int) (k : Nat) : lyF FI t k 0 0 17 = J (k : Int) := by unfold lyF; rw [sA_same, uA_same]
theorem lyF_18 (FI : OhI) (t : Int) (k : Nat) : lyF FI t k 0 0 18 = J t := by unfold lyF; rw [sA_same, uA_ne _ _ (by decide), uA_same]
theorem lyF_f17 (FI : OhI) (t : Int) (k l : Nat) : f17 (lyF FI t k) (J (l : Int)) = lyF FI t l := by
  unfold f17 lyF
  rw [sA_sA, sA_same]
  congr 1
  funext j
  by_cases e : j = 17 <;> simp [uA_at, e]
theorem lyF_lyF (FI : OhI) (t u : Int) (k l : Nat) : lyF (lyF FI t k) u l = lyF FI u l := by
  unfold lyF
  rw [sA_sA, sA_same]
  congr 1
  funext j
  by_cases e : j = 17
  · simp [uA_at, e]
  · by_cases e2 : j = 18 <;> simp [uA_at, e, e2]
theorem lyF_fr {FI : OhI} {t : Int} {k : Nat} {AI AI2 : OhI} {BR : OhQ} {f : Nat → OhR} {L : List Nat} (e : eqx L AI AI2) (hL : ∀ s ∈ L, s ∉ [5, 307, 308]) : HFr FI (lyF FI t k) AI AI2 BR (sA BR 316 0 f) := HFr_scr e hL (fun j hj => by rw [uA_ne _ _ (by rintro rfl; revert hj; decide), uA_ne _ _ (by rintro rfl; revert hj; decide)])
theorem h_layOut (hS : PStOk S) (h : HCore S Z FI FR GR AI BR AN) (hn : 10000 ≤ n) {t : Int} (ht : -2147483648 ≤ t ∧ t < 2147483648) :
    ∃ A f, mX1_layOut n FI FR GR AI AR BR AN (J t) = some (lyF FI t S.nC, A, sA BR 316 0 f) ∧ eqx [419, 420, 421] AI A ∧ HTb (tbl S t) Z (lyF FI t S.nC) FR GR A (sA BR 316 0 f) AN := by
  have hC := hS.nC
  have hP := hS.nP
  have hbeg : ∀ c, c < S.nC → -1 ≤ (S.ca c).beg ∧ (S.ca c).beg ≤ 1000 := fun c hc => by
    have h1 := (hS.ca c hc).beg; have h2 := (hS.ca c hc).day; have h3 := (hS.ca c hc).fin24; have h4 := (hS.ca c hc).fin; have h5 := (hS.op _ (hS.ca c hc).op).hours
    by_cases q0 : (S.ca c).kind = 0 <;> by_cases q1 : (S.ca c).kind = 1 <;> simp only [q0, q1, if_true, if_false] at h4 <;> omega
  have k1 : wp (lpF (fun v : Int32 × OhI × OhI × OhQ => mX1_layOut_b12 n v.2.1 FR GR v.2.2.1 AR v.2.2.2 AN (J t) v.1) n (J 0, lyF FI t 0, AI, BR)) (fun r => ∃ A f, r = (lyF FI t S.nC, A, sA BR 316 0 f) ∧ (∀ k, k < S.nC → f k = some (Z.c (ordN (fun c => (S.ca c).beg) S.nC k))) ∧ eqx [419, 420, 421] AI A ∧ hCs S.nC 419 (fun _ _ => -1) A ∧ hCs S.nC 420 (fun _ _ => -1) A ∧ hCs S.nC 421 (fun _ _ => -1) A) := by
    refine wp_for S.nC (fun m a => ∃ A f, a = (J (m : Int), lyF FI t m, A, sA BR 316 0 f) ∧ (∀ k, k < m → f k = some (Z.c (ordN (fun c => (S.ca c).beg) m k))) ∧ eqx [419, 420, 421] AI A ∧ hCs m 419 (fun _ _ => -1) A ∧ hCs m 420 (fun _ _ => -1) A ∧ hCs m 421 (fun _ _ => -1) A) ?_ (k0 := 0) ⟨AI, BR 316 0, ?_, fun k hk => by omega, eqx_refl, fun c r hc => by omega, fun c r hc => by omega, fun c r hc => by omega⟩ (by omega) (by omega)
    · rintro m a hm ⟨A, f, rfl, hf, x, r1, r2, r3⟩
      have hx : HFr FI (lyF FI t m) AI A BR (sA BR 316 0 f) := lyF_fr x (by decide)
      have hh := h.congr hx
      dsimp only
      unfold mX1_layOut_b12
      by_cases e : m = S.nC
      · subst e
        ((repeat' (first | ((with_reducible apply wp_let); try dsimp only) | ((with_reducible apply wp_gdJ); (focus (first | ((simp (disch := omega) only [J_lit, J_add, J_sub, J_mul, J_neg, J_n, jle, jlt, jeq, jnn, jnat, Int.toNat_natCast, bJ_0, bJ_1, bft, gd_T, nar_J, nar_0, nar_1, if_true, if_false, Option.bind_some, gd_t, h_size hh.caL]); rfl) | rfl)); (focus (first | exact True.intro | (first | exact vp_J (by omega) (by omega) (by omega) | omega)))) | ((with_reducible apply wp_ifJT); (focus (first | ((simp (disch := omega) only [J_lit, J_add, J_sub, J_mul, J_neg, J_n, jle, jlt, jeq, jnn, jnat, Int.toNat_natCast, bJ_0, bJ_1, bft, gd_T, nar_J, nar_0, nar_1, if_true, if_false, Option.bind_some, gd_t, decide_eq_false_iff_not, decide_eq_true_eq, h_size hh.caL]); rfl) | rfl)); (focus (first | exact True.intro | omega))) | ((with_reducible apply wp_ifJF); (focus (first | ((simp (disch := omega) only [J_lit, J_add, J_sub, J_mul, J_neg, J_n, jle, jlt, jeq, jnn, jnat, Int.toNat_natCast, bJ_0, bJ_1, bft, gd_T, nar_J, nar_0, nar_1, if_true, if_false, Option.bind_some, gd_t, decide_eq_false_iff_not, decide_eq_true_eq, h_size hh.caL]); rfl) | rfl)); (focus (first | exact not_false | omega))) | ((with_reducible apply wp_ifJ); (focus (first | ((simp (disch := omega) only [J_lit, J_add, J_sub, J_mul, J_neg, J_n, jle, jlt, jeq, jnn, jnat, Int.toNat_natCast, bJ_0, bJ_1, bft, gd_T, nar_J, nar_0, nar_1, if_true, if_false, Option.bind_some, gd_t, decide_eq_false_iff_not, decide_eq_true_eq, h_size hh.caL]); rfl) | rfl)); all_goals intro _) | (with_reducible apply wp_some) | ((with_reducible apply wp_eli); try dsimp only) | ((with_reducible apply wp_elr); try dsimp only) | ((with_reducible apply wp_bindE); (focus ((simp (disch := omega) only [J_lit, J_add, J_sub, J_mul, J_neg, J_n, jle, jlt, jeq, jnn, jnat, Int.toNat_natCast, bJ_0, bJ_1, bft, gd_T, nar_J, nar_0, nar_1, if_true, if_false, Option.bind_some, gd_t, h_size hh.caL]); rfl)); try dsimp only) | (with_reducible apply wp_bind))); all_goals (try (simp (disch := omega) only [J_lit, J_add, J_sub, J_mul, J_neg, J_n, jle, jlt, jeq, jnn, jnat, Int.toNat_natCast, bJ_0, bJ_1, bft, gd_T, nar_J, nar_0, nar_1, if_true, if_false, Option.bind_some, gd_t, h_size hh.caL])))
        exact ⟨A, f, rfl, hf, x, r1, r2, r3⟩
      · have hm2 : m < S.nC := by omega
        obtain ⟨f2, A2, e2, hf2, x2, hA2⟩ := h_enter (n := n) (Z := Z) (FI := lyF FI t m) (FR := FR) (AI := A) (AR := AR) (BR := sA BR 316 0 f) (AN := AN) (ca := S.ca) hn (m := m) (by omega) (fun c hc => hh.cls c (by omega)) (fun c hc => hbeg c (by omega)) (lyF_17 _ _ _) (fun k hk => by rw [sA_same]; exact hf k hk)
        rw [lyF_f17, sA_sA] at e2
        ((repeat' (first | ((with_reducible apply wp_let); try dsimp only) | ((with_reducible apply wp_gdJ); (focus (first | ((simp (disch := omega) only [J_lit, J_add, J_sub, J_mul, J_neg, J_n, jle, jlt, jeq, jnn, jnat, Int.toNat_natCast, bJ_0, bJ_1, bft, gd_T, nar_J, nar_0, nar_1, if_true, if_false, Option.bind_some, gd_t, h_size hh.caL, h_get hh.caL hm2 (by omega), oD_of (hh.cls m hm2).kd, e2]); rfl) | rfl)); (focus (first | exact True.intro | (first | exact vp_J (by omega) (by omega) (by omega) | omega)))) | ((with_reducible apply wp_ifJT); (focus (first | ((simp (disch := omega) only [J_lit, J_add, J_sub, J_mul, J_neg, J_n, jle, jlt, jeq, jnn, jnat, Int.toNat_natCast, bJ_0, bJ_1, bft, gd_T, nar_J, nar_0, nar_1, if_true, if_false, Option.bind_some, gd_t, decide_eq_false_iff_not, decide_eq_true_eq, h_size hh.caL, h_get hh.caL hm2 (by omega), oD_of (hh.cls m hm2).kd, e2]); rfl) | rfl)); (focus (first | exact True.intro | omega))) | ((with_reducible apply wp_ifJF); (focus (first | ((simp (disch := omega) only [J_lit, J_add, J_sub, J_mul, J_neg, J_n, jle, jlt, jeq, jnn, jnat, Int.toNat_natCast, bJ_0, bJ_1, bft, gd_T, nar_J, nar_0, nar_1, if_true, if_false, Option.bind_some, gd_t, decide_eq_false_iff_not, decide_eq_true_eq, h_size hh.caL, h_get hh.caL hm2 (by omega), oD_of (hh.cls m hm2).kd, e2]); rfl) | rfl)); (focus (first | exact not_false | omega))) | ((with_reducible apply wp_ifJ); (focus (first | ((simp (disch := omega) only [J_lit, J_add, J_sub, J_mul, J_neg, J_n, jle, jlt, jeq, jnn, jnat, Int.toNat_natCast, bJ_0, bJ_1, bft, gd_T, nar_J, nar_0, nar_1, if_true, if_false, Option.bind_some, gd_t, decide_eq_false_iff_not, decide_eq_true_eq, h_size hh.caL, h_get hh.caL hm2 (by omega), oD_of (hh.cls m hm2).kd, e2]); rfl) | rfl)); all_goals intro _) | (with_reducible apply wp_some) | ((with_reducible apply wp_eli); try dsimp only) | ((with_reducible apply wp_elr); try dsimp only) | ((with_reducible apply wp_bindE); (focus ((simp (disch := omega) only [J_lit, J_add, J_sub, J_mul, J_neg, J_n, jle, jlt, jeq, jnn, jnat, Int.toNat_natCast, bJ_0, bJ_1, bft, gd_T, nar_J, nar_0, nar_1, if_true, if_false, Option.bind_some, gd_t, h_size hh.caL, h_get hh.caL hm2 (by omega), oD_of (hh.cls m hm2).kd, e2]); rfl)); try dsimp only) | (with_reducible apply wp_bind))); all_goals (try (simp (disch := omega) only [J_lit, J_add, J_sub, J_mul, J_neg, J_n, jle, jlt, jeq, jnn, jnat, Int.toNat_natCast, bJ_0, bJ_1, bft, gd_T, nar_J, nar_0, nar_1, if_true, if_false, Option.bind_some, gd_t, h_size hh.caL, h_get hh.caL hm2 (by omega), oD_of (hh.cls m hm2).kd, e2])))
        have up : ∀ s, s ∈ [419, 420, 421] → hCs m s (fun _ _ => -1) A → hCs (m + 1) s (fun _ _ => -1) A2 := by
          intro s hs hr c r hc hr2
          by_cases q : c = m
          · subst q; exact (hA2 s hs).1 r hr2
          · rw [(hA2 s hs).2 c q]; exact hr c r (by omega) hr2
        exact ⟨hm2, A2, f2, rfl, hf2, eqx_trans x x2, up 419 (by decide) r1, up 420 (by decide) r2, up 421 (by decide) r3⟩
    · have : sA BR 316 0 (BR 316 0) = BR := by
        funext s i
        by_cases q : s = 316 ∧ i = 0
        · rw [q.1, q.2, sA_same]
        · rw [sA_ne _ _ q]
      rw [this]; rfl
  obtain ⟨r, e1, A, f, rfl, hf, x, r1, r2, r3⟩ := k1
  have hx : HFr FI (lyF FI t S.nC) AI A BR (sA BR 316 0 f) := lyF_fr x (by decide)
  have k2 : wp (lpF (fun v : Int32 × OhI => mX1_layOut_b46 n (lyF FI t S.nC) FR GR v.2 AR (sA BR 316 0 f) AN (J t) v.1) n (J 0, A)) (fun A2 => eqx [419, 420, 421] AI A2 ∧ hCs S.nC 419 (tabN S t S.nP).1 A2 ∧ hCs S.nC 420 (tabN S t S.nP).2.1 A2 ∧ hCs S.nC 421 (tabN S t S.nP).2.2 A2) := by
    refine wp_for S.nP (fun k a => ∃ A2, a = (J (k : Int), A2) ∧ eqx [419, 420, 421] AI A2 ∧ hCs S.nC 419 (tabN S t k).1 A2 ∧ hCs S.nC 420 (tabN S t k).2.1 A2 ∧ hCs S.nC 421 (tabN S t k).2.2 A2) ?_ (k0 := 0) ⟨A, rfl, x, r1, r2, r3⟩ (by omega) (by omega)
    rintro k a hk ⟨A2, rfl, x2, m1, m2, m3⟩
    have hh := h.congr (hx.trans (HFr.mk (FI := lyF FI t S.nC) (FI2 := lyF FI t S.nC) (AI := A) (AI2 := A2) (BR := sA BR 316 0 f) (BR2 := sA BR 316 0 f) (fun _ _ _ _ => rfl) (fun _ _ => rfl) (fun s hs => by rw [x2 s (by revert hs; revert s; decide), x s (by revert hs; revert s; decide)]) (fun _ _ => rfl)))
    dsimp only
    by_cases e : k = S.nP
    · subst e
      unfold mX1_layOut_b46
      ((repeat' (first | ((with_reducible apply wp_let); try dsimp only) | ((with_reducible apply wp_gdJ); (focus (first | ((simp (disch := omega) only [J_lit, J_add, J_sub, J_mul, J_neg, J_n, jle, jlt, jeq, jnn, jnat, Int.toNat_natCast, bJ_0, bJ_1, bft, gd_T, nar_J, nar_0, nar_1, if_true, if_false, Option.bind_some, gd_t, h_size hh.ptL]); rfl) | rfl)); (focus (first | exact True.intro | (first | exact vp_J (by omega) (by omega) (by omega) | omega)))) | ((with_reducible apply wp_ifJT); (focus (first | ((simp (disch := omega) only [J_lit, J_add, J_sub, J_mul, J_neg, J_n, jle, jlt, jeq, jnn, jnat, Int.toNat_natCast, bJ_0, bJ_1, bft, gd_T, nar_J, nar_0, nar_1, if_true, if_false, Option.bind_some, gd_t, decide_eq_false_iff_not, decide_eq_true_eq, h_size hh.ptL]); rfl) | rfl)); (focus (first | exact True.intro | omega))) | ((with_reducible apply wp_ifJF); (focus (first | ((simp (disch := omega) only [J_lit, J_add, J_sub, J_mul, J_neg, J_n, jle, jlt, jeq, jnn, jnat, Int.toNat_natCast, bJ_0, bJ_1, bft, gd_T, nar_J, nar_0, nar_1, if_true, if_false, Option.bind_some, gd_t, decide_eq_false_iff_not, decide_eq_true_eq, h_size hh.ptL]); rfl) | rfl)); (focus (first | exact not_false | omega))) | ((with_reducible apply wp_ifJ); (focus (first | ((simp (disch := omega) only [J_lit, J_add, J_sub, J_mul, J_neg, J_n, jle, jlt, jeq, jnn, jnat, Int.toNat_natCast, bJ_0, bJ_1, bft, gd_T, nar_J, nar_0, nar_1, if_true, if_false, Option.bind_some, gd_t, decide_eq_false_iff_not, decide_eq_true_eq, h_size hh.ptL]); rfl) | rfl)); all_goals intro _) | (with_reducible apply wp_some) | ((with_reducible apply wp_eli); try dsimp only) | ((with_reducible apply wp_elr); try dsimp only) | ((with_reducible apply wp_bindE); (focus ((simp (disch := omega) only [J_lit, J_add, J_sub, J_mul, J_neg, J_n, jle, jlt, jeq, jnn, jnat, Int.toNat_natCast, bJ_0, bJ_1, bft, gd_T, nar_J, nar_0, nar_1, if_true, if_false, Option.bind_some, gd_t, h_size hh.ptL]); rfl)); try dsimp only) | (with_reducible apply wp_bind))); all_goals (try (simp (disch := omega) only [J_lit, J_add, J_sub, J_mul, J_neg, J_n, jle, jlt, jeq, jnn, jnat, Int.toNat_natCast, bJ_0, bJ_1, bft, gd_T, nar_J, nar_0, nar_1, if_true, if_false, Option.bind_some, gd_t, h_size hh.ptL])))
      exact ⟨x2, m1, m2, m3⟩
    · have hk2 : k < S.nP := by omega
      have hp := hS.pt k hk2
      have h8 := (hS.op _ (hS.ca _ hp.1).op).nr
      have hSn := hS.nS
      obtain ⟨q0, q1, q2, q3, q4, q5⟩ := hh.pt k hk2
      have eg := h_give (FR := FR) (AI := A2) (AR := AR) (BR := sA BR 316 0 f) (AN := AN) (c := (S.pt k).call) (r := (S.pt k).role) (v := (S.pt k).who) (by omega) (by omega)
      unfold mX1_layOut_b46
      ((repeat' (first | ((with_reducible apply wp_let); try dsimp only) | ((with_reducible apply wp_gdJ); (focus (first | ((simp (disch := omega) only [J_lit, J_add, J_sub, J_mul, J_neg, J_n, jle, jlt, jeq, jnn, jnat, Int.toNat_natCast, bJ_0, bJ_1, bft, gd_T, nar_J, nar_0, nar_1, if_true, if_false, Option.bind_some, gd_t, h_size hh.ptL, h_get hh.ptL hk2 (by omega), oD_of q0, q1, q2, q3, q4, q5, eg]); rfl) | rfl)); (focus (first | exact True.intro | (first | exact vp_J (by omega) (by omega) (by omega) | omega)))) | ((with_reducible apply wp_ifJT); (focus (first | ((simp (disch := omega) only [J_lit, J_add, J_sub, J_mul, J_neg, J_n, jle, jlt, jeq, jnn, jnat, Int.toNat_natCast, bJ_0, bJ_1, bft, gd_T, nar_J, nar_0, nar_1, if_true, if_false, Option.bind_some, gd_t, decide_eq_false_iff_not, decide_eq_true_eq, h_size hh.ptL, h_get hh.ptL hk2 (by omega), oD_of q0, q1, q2, q3, q4, q5, eg]); rfl) | rfl)); (focus (first | exact True.intro | omega))) | ((with_reducible apply wp_ifJF); (focus (first | ((simp (disch := omega) only [J_lit, J_add, J_sub, J_mul, J_neg, J_n, jle, jlt, jeq, jnn, jnat, Int.toNat_natCast, bJ_0, bJ_1, bft, gd_T, nar_J, nar_0, nar_1, if_true, if_false, Option.bind_some, gd_t, decide_eq_false_iff_not, decide_eq_true_eq, h_size hh.ptL, h_get hh.ptL hk2 (by omega), oD_of q0, q1, q2, q3, q4, q5, eg]); rfl) | rfl)); (focus (first | exact not_false | omega))) | ((with_reducible apply wp_ifJ); (focus (first | ((simp (disch := omega) only [J_lit, J_add, J_sub, J_mul, J_neg, J_n, jle, jlt, jeq, jnn, jnat, Int.toNat_natCast, bJ_0, bJ_1, bft, gd_T, nar_J, nar_0, nar_1, if_true, if_false, Option.bind_some, gd_t, decide_eq_false_iff_not, decide_eq_true_eq, h_size hh.ptL, h_get hh.ptL hk2 (by omega), oD_of q0, q1, q2, q3, q4, q5, eg]); rfl) | rfl)); all_goals intro _) | (with_reducible apply wp_some) | ((with_reducible apply wp_eli); try dsimp only) | ((with_reducible apply wp_elr); try dsimp only) | ((with_reducible apply wp_bindE); (focus ((simp (disch := omega) only [J_lit, J_add, J_sub, J_mul, J_neg, J_n, jle, jlt, jeq, jnn, jnat, Int.toNat_natCast, bJ_0, bJ_1, bft, gd_T, nar_J, nar_0, nar_1, if_true, if_false, Option.bind_some, gd_t, h_size hh.ptL, h_get hh.ptL hk2 (by omega), oD_of q0, q1, q2, q3, q4, q5, eg]); rfl)); try dsimp only) | (with_reducible apply wp_bind))); all_goals (try (simp (disch := omega) only [J_lit, J_add, J_sub, J_mul, J_neg, J_n, jle, jlt, jeq, jnn, jnat, Int.toNat_natCast, bJ_0, bJ_1, bft, gd_T, nar_J, nar_0, nar_1, if_true, if_false, Option.bind_some, gd_t, h_size hh.ptL, h_get hh.ptL hk2 (by omega), oD_of q0, q1, q2, q3, q4, q5, eg])))
      · have hcv : (S.pt k).cover = false := by assumption
        refine ⟨hk2, _, rfl, eqx_trans x2 (eqx_trans (eqx_sA (by decide)) (eqx_sA (by decide))), ?_⟩
        simp only [tabN]
        rw [if_neg (by omega), if_neg (by simp [hcv])]
        refine ⟨?_, ?_, hCs_ne (hCs_ne m3 (by decide)) (by decide)⟩
        · have := hCs_up (c := (S.pt k).call) (r := (S.pt k).role) (v := (S.pt k).who) (hCs_ne (s2 := 420) (c := (S.pt k).call) (g := uA (A2 420 (S.pt k).call) (S.pt k).role (A2 419 (S.pt k).call (S.pt k).role)) m1 (by decide))
          rw [sA_site _ _ _ (by decide)] at this
          exact this
        · refine hCs_ne ?_ (by decide)
          have e9 := m1 (S.pt k).call (S.pt k).role hp.1 (by omega)
          rw [e9]
          exact hCs_up m2
      · have hcv : ¬ (S.pt k).cover = false := by assumption
        refine ⟨hk2, _, rfl, eqx_trans x2 (eqx_sA (by decide)), ?_⟩
        simp only [tabN]
        rw [if_neg (by omega), if_pos (by simpa using hcv)]
        exact ⟨hCs_ne m1 (by decide), hCs_ne m2 (by decide), hCs_up m3⟩
      · refine ⟨hk2, A2, rfl, x2, ?_⟩
        simp only [tabN]
        rw [if_pos (by omega)]
        exact ⟨m1, m2, m3⟩
  obtain ⟨A2, e2, x2, m1, m2, m3⟩ := k2
  have hh := h.congr (lyF_fr (t := t) (k := S.nC) (f := f) (BR := BR) x2 (by decide))
  refine ⟨A2, f, wp_eq ?_, x2, ?_⟩
  · unfold mX1_layOut
    have eF : sA (sA FI 0 0 (uA (FI 0 0) 17 (J 0))) 0 0 (uA (sA FI 0 0 (uA (FI 0 0) 17 (J 0)) 0 0) 18 (J t)) = lyF FI t 0 := by
      unfold lyF
      rw [sA_sA, sA_same]
      congr 1
      funext j
      by_cases q : j = 17
      · subst q; simp [uA_at]
      · by_cases q2 : j = 18 <;> simp [uA_at, q, q2]
    ((repeat' (first | ((with_reducible apply wp_let); try dsimp only) | ((with_reducible apply wp_gdJ); (focus (first | ((simp (disch := omega) only [J_lit, J_add, J_sub, J_mul, J_neg, J_n, jle, jlt, jeq, jnn, jnat, Int.toNat_natCast, bJ_0, bJ_1, bft, gd_T, nar_J, nar_0, nar_1, if_true, if_false, Option.bind_some, gd_t, eF, e1, e2]); rfl) | rfl)); (focus (first | exact True.intro | (first | exact vp_J (by omega) (by omega) (by omega) | omega)))) | ((with_reducible apply wp_ifJT); (focus (first | ((simp (disch := omega) only [J_lit, J_add, J_sub, J_mul, J_neg, J_n, jle, jlt, jeq, jnn, jnat, Int.toNat_natCast, bJ_0, bJ_1, bft, gd_T, nar_J, nar_0, nar_1, if_true, if_false, Option.bind_some, gd_t, decide_eq_false_iff_not, decide_eq_true_eq, eF, e1, e2]); rfl) | rfl)); (focus (first | exact True.intro | omega))) | ((with_reducible apply wp_ifJF); (focus (first | ((simp (disch := omega) only [J_lit, J_add, J_sub, J_mul, J_neg, J_n, jle, jlt, jeq, jnn, jnat, Int.toNat_natCast, bJ_0, bJ_1, bft, gd_T, nar_J, nar_0, nar_1, if_true, if_false, Option.bind_some, gd_t, decide_eq_false_iff_not, decide_eq_true_eq, eF, e1, e2]); rfl) | rfl)); (focus (first | exact not_false | omega))) | ((with_reducible apply wp_ifJ); (focus (first | ((simp (disch := omega) only [J_lit, J_add, J_sub, J_mul, J_neg, J_n, jle, jlt, jeq, jnn, jnat, Int.toNat_natCast, bJ_0, bJ_1, bft, gd_T, nar_J, nar_0, nar_1, if_true, if_false, Option.bind_some, gd_t, decide_eq_false_iff_not, decide_eq_true_eq, eF, e1, e2]); rfl) | rfl)); all_goals intro _) | (with_reducible apply wp_some) | ((with_reducible apply wp_eli); try dsimp only) | ((with_reducible apply wp_elr); try dsimp only) | ((with_reducible apply wp_bindE); (focus ((simp (disch := omega) only [J_lit, J_add, J_sub, J_mul, J_neg, J_n, jle, jlt, jeq, jnn, jnat, Int.toNat_natCast, bJ_0, bJ_1, bft, gd_T, nar_J, nar_0, nar_1, if_true, if_false, Option.bind_some, gd_t, eF, e1, e2]); rfl)); try dsimp only) | (with_reducible apply wp_bind))); all_goals (try (simp (disch := omega) only [J_lit, J_add, J_sub, J_mul, J_neg, J_n, jle, jlt, jeq, jnn, jnat, Int.toNat_natCast, bJ_0, bJ_1, bft, gd_T, nar_J, nar_0, nar_1, if_true, if_false, Option.bind_some, gd_t, eF, e1, e2])))
  · exact (HTb.mk (toHSt := hh.toHSt) (ca := hh.cls) (cinj := hh.cij) (ordered := lyF_17 _ _ _) (asOf := lyF_18 _ _ _) (order := fun k hk => by rw [sA_same]; exact hf k hk) (cast := m1) (ahead := m2) (cover := m3))
end
end
