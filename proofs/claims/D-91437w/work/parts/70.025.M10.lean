noncomputable section
set_option linter.unusedVariables false
set_option linter.unusedSimpArgs false
/-! PLAIN 13: the twin's order; its table is loaded -/
theorem natS (m : Nat) : ((m : Int) + 1 - 1) = m := by omega
section
variable {S : PSt} {n : Nat} {FR : OhQ} {AN : OhN} {FI AI : OhI} {ca : Nat → PCa} {all : Nat} {cast : Nat → Nat → Int}
theorem q4_sort1 (hS : PStOk S) (hc : MCa all ca AI) (h66 : all ≤ 66) (hok : ∀ c, c < all → PCaOk S (ca c)) (hn : 10000 ≤ n) {c : Nat} (hcc : c < all) (hord : ∀ k, k < c → AI 175 0 k = J (ordN (fun c => (ca c).beg) c k)) :
    ∃ f : Nat → Int32, (lpF (fun v : Int32 × OhI => mX4_sort_b12 n FI FR v.2 AN (J c) v.1) n (J c, AI)) = some (J (insAt (fun c => (ca c).beg) (ordN (fun c => (ca c).beg) c) (ca c).beg c), sA AI 175 0 f) ∧ ∀ k, k ≤ c → k ≠ insAt (fun c => (ca c).beg) (ordN (fun c => (ca c).beg) c) (ca c).beg c → f k = J (ordN (fun c => (ca c).beg) (c + 1) k) := by
  have hoc := hok c hcc
  obtain ⟨a1, a2, a3, a4, a5, a6⟩ := ordN_all (fun c => (ca c).beg) c
  have eo : ∀ k, ordN (fun c => (ca c).beg) (c + 1) k = if k < insAt (fun c => (ca c).beg) (ordN (fun c => (ca c).beg) c) (ca c).beg c then ordN (fun c => (ca c).beg) c k else if k = insAt (fun c => (ca c).beg) (ordN (fun c => (ca c).beg) c) (ca c).beg c then c else ordN (fun c => (ca c).beg) c (k - 1) := fun k => rfl
  generalize hod : ordN (fun c => (ca c).beg) c = od at a1 a2 a3 a4 a5 a6 hord eo
  have hbeg : ∀ d, d < all → -1 ≤ (ca d).beg ∧ (ca d).beg ≤ 1000 := fun d hd => by
    have h1 := (hok d hd).beg; have h2 := (hok d hd).day; have h3 := (hok d hd).fin24; have h4 := (hok d hd).fin; have h5 := (hS.op _ (hok d hd).op).hours
    by_cases q0 : (ca d).kind = 0 <;> by_cases q1 : (ca d).kind = 1 <;> simp only [q0, q1, if_true, if_false] at h4 <;> omega
  have hbc := hbeg c hcc
  have key : wp (lpF (fun v : Int32 × OhI => mX4_sort_b12 n FI FR v.2 AN (J c) v.1) n (J c, AI)) (fun r => ∃ f : Nat → Int32, r = (J (insAt (fun c => (ca c).beg) od (ca c).beg c), sA AI 175 0 f) ∧ ∀ k, k ≤ c → k ≠ insAt (fun c => (ca c).beg) od (ca c).beg c → f k = J (ordN (fun c => (ca c).beg) (c + 1) k)) := by
    refine wp_lp (fun a => a.1.toNatClampNeg) (fun a => ∃ (i : Nat) (f : Nat → Int32), i ≤ c ∧ a = (J i, sA AI 175 0 f) ∧ insAt (fun c => (ca c).beg) od (ca c).beg c = insAt (fun c => (ca c).beg) od (ca c).beg i ∧ (∀ k, k < i → f k = J (od k)) ∧ (∀ k, i < k → k ≤ c → f k = J (od (k - 1)))) ?_ ⟨c, AI 175 0, Nat.le_refl _, ?_, rfl, hord, fun k h1 h2 => by omega⟩ (by show (J (c : Int)).toNatClampNeg < n; rw [jnn (by omega)]; omega)
    · rintro a ⟨i, f, hi, rfl, he, hl, hr⟩
      dsimp only
      rw [jnn (by omega)]
      have e1 : ∀ d, d < all → sA AI 175 0 f 161 0 d = J (ca d).beg := fun d hd => hc.cb d hd
      cases i with
      | zero =>
        unfold mX4_sort_b12
        ((repeat' (first | ((with_reducible apply wp_let); try dsimp only) | ((with_reducible apply wp_gdJ); (focus (first | ((simp (disch := omega) only [J_lit, J_add, J_sub, J_mul, J_neg, J_n, jle, jlt, jeq, jnn, jnat, Int.toNat_natCast, bJ_0, bJ_1, bft, gd_T, nar_J, nar_0, nar_1, if_true, if_false, Option.bind_some, gd_t]); rfl) | rfl)); (focus (first | exact True.intro | (first | exact vp_J (by omega) (by omega) (by omega) | omega)))) | ((with_reducible apply wp_ifJT); (focus (first | ((simp (disch := omega) only [J_lit, J_add, J_sub, J_mul, J_neg, J_n, jle, jlt, jeq, jnn, jnat, Int.toNat_natCast, bJ_0, bJ_1, bft, gd_T, nar_J, nar_0, nar_1, if_true, if_false, Option.bind_some, gd_t]); rfl) | rfl)); (focus (first | exact True.intro | omega))) | ((with_reducible apply wp_ifJF); (focus (first | ((simp (disch := omega) only [J_lit, J_add, J_sub, J_mul, J_neg, J_n, jle, jlt, jeq, jnn, jnat, Int.toNat_natCast, bJ_0, bJ_1, bft, gd_T, nar_J, nar_0, nar_1, if_true, if_false, Option.bind_some, gd_t]); rfl) | rfl)); (focus (first | exact not_false | omega))) | ((with_reducible apply wp_ifJ); (focus (first | ((simp (disch := omega) only [J_lit, J_add, J_sub, J_mul, J_neg, J_n, jle, jlt, jeq, jnn, jnat, Int.toNat_natCast, bJ_0, bJ_1, bft, gd_T, nar_J, nar_0, nar_1, if_true, if_false, Option.bind_some, gd_t]); rfl) | rfl)); all_goals intro _) | (with_reducible apply wp_some) | ((with_reducible apply wp_eli); try dsimp only) | ((with_reducible apply wp_elr); try dsimp only) | ((with_reducible apply wp_bindE); (focus ((simp (disch := omega) only [J_lit, J_add, J_sub, J_mul, J_neg, J_n, jle, jlt, jeq, jnn, jnat, Int.toNat_natCast, bJ_0, bJ_1, bft, gd_T, nar_J, nar_0, nar_1, if_true, if_false, Option.bind_some, gd_t]); rfl)); try dsimp only) | (with_reducible apply wp_bind))); all_goals (try (simp (disch := omega) only [J_lit, J_add, J_sub, J_mul, J_neg, J_n, jle, jlt, jeq, jnn, jnat, Int.toNat_natCast, bJ_0, bJ_1, bft, gd_T, nar_J, nar_0, nar_1, if_true, if_false, Option.bind_some, gd_t])))
        refine ⟨f, ?_, fun k h1 h2 => ?_⟩
        · rw [he]; rfl
        · have h3 : insAt (fun c => (ca c).beg) od (ca c).beg c = 0 := he
          rw [h3] at h2
          rw [hr k (by omega) h1, eo, h3, if_neg (by omega), if_neg h2]
      | succ i =>
        have ho := a1 i (by omega)
        have hb2 := hbeg (od i) (by omega)
        have e2 : sA AI 175 0 f 175 0 i = J (od i) := by rw [sA_same]; exact hl i (by omega)
        rw [show ((i + 1 : Nat) : Int) = (i : Int) + 1 by omega]
        unfold mX4_sort_b12
        ((repeat' (first | ((with_reducible apply wp_let); try dsimp only) | ((with_reducible apply wp_gdJ); (focus (first | ((simp (disch := omega) only [J_lit, J_add, J_sub, J_mul, J_neg, J_n, jle, jlt, jeq, jnn, jnat, Int.toNat_natCast, bJ_0, bJ_1, bft, gd_T, nar_J, nar_0, nar_1, if_true, if_false, Option.bind_some, gd_t, e1, e2, natS, natP]); rfl) | rfl)); (focus (first | exact True.intro | (first | exact vp_J (by omega) (by omega) (by omega) | omega)))) | ((with_reducible apply wp_ifJT); (focus (first | ((simp (disch := omega) only [J_lit, J_add, J_sub, J_mul, J_neg, J_n, jle, jlt, jeq, jnn, jnat, Int.toNat_natCast, bJ_0, bJ_1, bft, gd_T, nar_J, nar_0, nar_1, if_true, if_false, Option.bind_some, gd_t, e1, e2, natS, natP]); rfl) | rfl)); (focus (first | exact True.intro | omega))) | ((with_reducible apply wp_ifJF); (focus (first | ((simp (disch := omega) only [J_lit, J_add, J_sub, J_mul, J_neg, J_n, jle, jlt, jeq, jnn, jnat, Int.toNat_natCast, bJ_0, bJ_1, bft, gd_T, nar_J, nar_0, nar_1, if_true, if_false, Option.bind_some, gd_t, e1, e2, natS, natP]); rfl) | rfl)); (focus (first | exact not_false | omega))) | ((with_reducible apply wp_ifJ); (focus (first | ((simp (disch := omega) only [J_lit, J_add, J_sub, J_mul, J_neg, J_n, jle, jlt, jeq, jnn, jnat, Int.toNat_natCast, bJ_0, bJ_1, bft, gd_T, nar_J, nar_0, nar_1, if_true, if_false, Option.bind_some, gd_t, e1, e2, natS, natP]); rfl) | rfl)); all_goals intro _) | (with_reducible apply wp_some) | ((with_reducible apply wp_eli); try dsimp only) | ((with_reducible apply wp_elr); try dsimp only) | ((with_reducible apply wp_bindE); (focus ((simp (disch := omega) only [J_lit, J_add, J_sub, J_mul, J_neg, J_n, jle, jlt, jeq, jnn, jnat, Int.toNat_natCast, bJ_0, bJ_1, bft, gd_T, nar_J, nar_0, nar_1, if_true, if_false, Option.bind_some, gd_t, e1, e2, natS, natP]); rfl)); try dsimp only) | (with_reducible apply wp_bind))); all_goals (try (simp (disch := omega) only [J_lit, J_add, J_sub, J_mul, J_neg, J_n, jle, jlt, jeq, jnn, jnat, Int.toNat_natCast, bJ_0, bJ_1, bft, gd_T, nar_J, nar_0, nar_1, if_true, if_false, Option.bind_some, gd_t, e1, e2, natS, natP])))
        · have h3 : insAt (fun c => (ca c).beg) od (ca c).beg c = i + 1 := by
            rw [he]; simp only [insAt]; rw [if_neg (by omega)]
          refine ⟨f, ?_, fun k h1 h2 => ?_⟩
          · rw [h3]; rfl
          · rw [h3] at h2
            by_cases q : k < i + 1
            · rw [hl k q, eo, h3, if_pos q]
            · rw [hr k (by omega) h1, eo, h3, if_neg q, if_neg h2]
        · refine ⟨⟨i, uA f (i + 1) (J (od i)), by omega, ?_, ?_, ?_, ?_⟩, ?_⟩
          · rw [sA_sA, sA_same, show ((i : Int) + 1 + -1) = i by omega]
          · rw [he]; simp only [insAt]; rw [if_pos (by omega)]
          · intro k hk; rw [uA_ne _ _ (by omega)]; exact hl k (by omega)
          · intro k h1 h2
            by_cases q : k = i + 1
            · subst q; rw [uA_same, Nat.add_sub_cancel]
            · rw [uA_ne _ _ q]; exact hr k (by omega) h2
          · rw [show ((i : Int) + 1 + -1) = i by omega, jnn (by omega)]; omega
    · congr 1
      funext s i
      by_cases q : s = 175 ∧ i = 0
      · rw [q.1, q.2, sA_same]
      · rw [sA_ne _ _ q]
  obtain ⟨r, e, f, rfl, hf⟩ := key
  exact ⟨f, e, hf⟩
end
end
