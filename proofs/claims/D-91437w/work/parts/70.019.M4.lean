noncomputable section
set_option linter.unusedVariables false
set_option linter.unusedSimpArgs false
/-! PLAIN 7: what the twin's questions answer, 4 -/
section
variable {T : PTb} {FI AI : OhI} {n : Nat} {FR : OhQ} {AN : OhN}
theorem sung_lt (hT : PTbOk T) {s : Int} : ∀ {k d}, k ≤ T.all → T.sung s k = some d → d < T.all
  | 0, d, _, e => by cases e
  | k + 1, d, hk, e => by
    simp only [PTb.sung] at e
    split at e
    · cases e; exact hT.ord k (by omega)
    · exact sung_lt hT (by omega) e
theorem q4_lacksRest (h : MTb T FI AI) (hT : PTbOk T) (hn : 10000 ≤ n) {s c : Nat} (hs : s < T.S.nS) (hc : c < T.all) : mX4_lacksRest n FR AI AN (J s) (J c) = some (bJ (T.noRest s c)) := by
  have h66 := hT.all
  have hb := hT.b hc
  have hS := hT.S.nS
  have hr := (hT.S.ct s hs).rest
  have k1 : lpF (fun v => mX4_lacksRest_b9 n FR AI AN (J s) (J c) v) n (J ((T.pos c : Int) - 1)) = some (match T.sung s (T.pos c) with | none => .inl () | some d => .inr (J d)) := by
    apply wp_eq
    refine wp_lp (fun a => (a.toInt + 1).toNat) (fun a => ∃ k : Nat, k ≤ T.pos c ∧ a = J ((k : Int) - 1) ∧ T.sung s (T.pos c) = T.sung s k) ?_ ⟨T.pos c, Nat.le_refl _, rfl, rfl⟩ (by rw [toInt_J ⟨by omega, by omega⟩]; omega)
    rintro a ⟨k, hk, rfl, e⟩
    rw [e, toInt_J ⟨by omega, by omega⟩]
    cases k with
    | zero =>
      unfold mX4_lacksRest_b9
      ((try (simp (disch := omega) only [J_lit, J_add, J_sub, J_mul, J_neg, J_n, jle, jlt, jeq, jnn, jnat, Int.toNat_natCast, bJ_0, bJ_1, bft, gd_T, nar_J, nar_0, nar_1, if_true, if_false, Option.bind_some, gd_t])); repeat' ((first | ((with_reducible apply wp_gd); (focus (first | exact vp_J (by omega) (by omega) (by omega) | omega))) | (with_reducible apply wp_let) | (with_reducible apply wp_some) | ((with_reducible apply wp_ifT); (focus omega)) | ((with_reducible apply wp_ifF); (focus omega)) | ((with_reducible apply wp_if) <;> intro _) | (with_reducible apply wp_bind)) <;> try (simp (disch := omega) only [J_lit, J_add, J_sub, J_mul, J_neg, J_n, jle, jlt, jeq, jnn, jnat, Int.toNat_natCast, bJ_0, bJ_1, bft, gd_T, nar_J, nar_0, nar_1, if_true, if_false, Option.bind_some, gd_t])))
      rfl
    | succ k =>
      have ho := hT.ord k (by omega)
      have hb2 := hT.b ho
      rw [show (((k + 1 : Nat) : Int) - 1) = (k : Int) by omega] at *
      simp only [PTb.sung]
      unfold mX4_lacksRest_b9
      ((try (simp (disch := omega) only [J_lit, J_add, J_sub, J_mul, J_neg, J_n, jle, jlt, jeq, jnn, jnat, Int.toNat_natCast, bJ_0, bJ_1, bft, gd_T, nar_J, nar_0, nar_1, if_true, if_false, Option.bind_some, gd_t, h.pos, h.ord, h.ck, q4_isIn2 h hT])); repeat' ((first | ((with_reducible apply wp_gd); (focus (first | exact vp_J (by omega) (by omega) (by omega) | omega))) | (with_reducible apply wp_let) | (with_reducible apply wp_some) | ((with_reducible apply wp_ifT); (focus omega)) | ((with_reducible apply wp_ifF); (focus omega)) | ((with_reducible apply wp_if) <;> intro _) | (with_reducible apply wp_bind)) <;> try (simp (disch := omega) only [J_lit, J_add, J_sub, J_mul, J_neg, J_n, jle, jlt, jeq, jnn, jnat, Int.toNat_natCast, bJ_0, bJ_1, bft, gd_T, nar_J, nar_0, nar_1, if_true, if_false, Option.bind_some, gd_t, h.pos, h.ord, h.ck, q4_isIn2 h hT])))
      all_goals (simp only [LR_l, LR_r])
      · refine ⟨⟨k, by omega, rfl, ?_⟩, ?_⟩
        · rw [if_neg (by omega)]
        · rw [show ((k : Int) + -1) = (k : Int) - 1 by omega, toInt_J ⟨by omega, by omega⟩]; omega
      · refine ⟨⟨k, by omega, rfl, ?_⟩, ?_⟩
        · rw [if_neg (by simp_all)]
        · rw [show ((k : Int) + -1) = (k : Int) - 1 by omega, toInt_J ⟨by omega, by omega⟩]; omega
      · rw [if_pos (by simp_all)]
  have hl := fun d => sung_lt hT (s := s) (k := T.pos c) (d := d) (by omega)
  unfold mX4_lacksRest PTb.noRest
  apply wp_eq
  cases hsu : T.sung s (T.pos c) with
  | none =>
    rw [hsu] at k1
    ((try (simp (disch := omega) only [J_lit, J_add, J_sub, J_mul, J_neg, J_n, jle, jlt, jeq, jnn, jnat, Int.toNat_natCast, bJ_0, bJ_1, bft, gd_T, nar_J, nar_0, nar_1, if_true, if_false, Option.bind_some, gd_t, h.pos, k1, Sum.elim_inl])); repeat' ((first | ((with_reducible apply wp_gd); (focus (first | exact vp_J (by omega) (by omega) (by omega) | omega))) | (with_reducible apply wp_let) | (with_reducible apply wp_some) | ((with_reducible apply wp_ifT); (focus omega)) | ((with_reducible apply wp_ifF); (focus omega)) | ((with_reducible apply wp_if) <;> intro _) | (with_reducible apply wp_bind)) <;> try (simp (disch := omega) only [J_lit, J_add, J_sub, J_mul, J_neg, J_n, jle, jlt, jeq, jnn, jnat, Int.toNat_natCast, bJ_0, bJ_1, bft, gd_T, nar_J, nar_0, nar_1, if_true, if_false, Option.bind_some, gd_t, h.pos, k1, Sum.elim_inl])))
    rfl
  | some d =>
    rw [hsu] at k1
    have hd := hl d hsu
    have hb2 := hT.b hd
    ((try (simp (disch := omega) only [J_lit, J_add, J_sub, J_mul, J_neg, J_n, jle, jlt, jeq, jnn, jnat, Int.toNat_natCast, bJ_0, bJ_1, bft, gd_T, nar_J, nar_0, nar_1, if_true, if_false, Option.bind_some, gd_t, h.pos, k1, Sum.elim_inr, h.cd, h.cb, h.cf, h.rest s hs])); repeat' ((first | ((with_reducible apply wp_gd); (focus (first | exact vp_J (by omega) (by omega) (by omega) | omega))) | (with_reducible apply wp_let) | (with_reducible apply wp_some) | ((with_reducible apply wp_ifT); (focus omega)) | ((with_reducible apply wp_ifF); (focus omega)) | ((with_reducible apply wp_if) <;> intro _) | (with_reducible apply wp_bind)) <;> try (simp (disch := omega) only [J_lit, J_add, J_sub, J_mul, J_neg, J_n, jle, jlt, jeq, jnn, jnat, Int.toNat_natCast, bJ_0, bJ_1, bft, gd_T, nar_J, nar_0, nar_1, if_true, if_false, Option.bind_some, gd_t, h.pos, k1, Sum.elim_inr, h.cd, h.cb, h.cf, h.rest s hs])))
    all_goals ((first | refine bJ_e1 ?_ | refine bJ_e0 ?_); (try simp only [decide_eq_true_eq, decide_eq_false_iff_not, beq_iff_eq, beq_eq_false_iff_ne, Bool.and_eq_true, Bool.and_eq_false_iff, Bool.or_eq_true, Bool.or_eq_false_iff, Bool.not_eq_true', Bool.not_eq_false', Bool.not_eq_true, ne_eq] at *); (first | omega | (simp_all; done) | (simp_all; omega)))
/-- strain -/
theorem strain_b (hT : PTbOk T) {s : Int} {c : Nat} (hc : c < T.all) : ∀ k, k ≤ T.nr c → 0 ≤ sumN k (fun r => if T.cast c r = s then ((T.o c).ro r).strain else 0) ∧ sumN k (fun r => if T.cast c r = s then ((T.o c).ro r).strain else 0) ≤ 240 := by
  intro k hk
  have hb := hT.b hc
  refine ⟨sumN_nn fun r hr => ?_, ?_⟩
  · have := (hT.o hc).strain r (by unfold PTb.nr at hk; omega)
    split <;> omega
  · have := sumN_le (n := k) (f := fun r => if T.cast c r = s then ((T.o c).ro r).strain else 0) (B := 30) (fun r hr => by
      have := (hT.o hc).strain r (by unfold PTb.nr at hk; omega)
      split <;> omega)
    omega
theorem strain_0 (hT : PTbOk T) {s : Int} {c : Nat} (hc : c < T.all) : (T.strain s c = 0) = (T.isCast s c = false) := by
  have hb := hT.b hc
  have key : ∀ k, k ≤ T.nr c → ((sumN k (fun r => if T.cast c r = s then ((T.o c).ro r).strain else 0) = 0) ↔ (anyN k (fun r => T.cast c r == s) = false)) := by
    intro k
    induction k with
    | zero => intro _; simp [sumN, anyN]
    | succ k ih =>
      intro hk
      have i1 := ih (by omega)
      have b1 := strain_b hT (s := s) hc k (by omega)
      have b2 := (hT.o hc).strain k (by unfold PTb.nr at hk; omega)
      simp only [sumN, anyN, Bool.or_eq_false_iff, beq_eq_false_iff_ne]
      rw [← i1]
      by_cases e : T.cast c k = s
      · rw [if_pos e]; constructor
        · intro q; exfalso; omega
        · intro q; exact absurd e q.2
      · rw [if_neg e]; constructor
        · intro q; exact ⟨by omega, e⟩
        · intro q; omega
  exact eq_iff_iff.mpr (key _ (Nat.le_refl _))
theorem tir_b (hT : PTbOk T) {s : Int} {c : Nat} : ∀ k, k ≤ T.all → 0 ≤ (T.tir s c k).1 ∧ (T.tir s c k).1 ≤ 1300 * k ∧ 0 ≤ (T.tir s c k).2 ∧ (T.tir s c k).2 ≤ 800
  | 0, _ => by simp [PTb.tir]
  | k + 1, hk => by
    have ih := tir_b hT (s := s) (c := c) k (by omega)
    have ho := hT.ord k (by omega)
    have hb := hT.b ho
    have h1 : 0 ≤ T.strain s (T.ord k) ∧ T.strain s (T.ord k) ≤ 240 := strain_b hT ho _ (Nat.le_refl _)
    simp only [PTb.tir, PTb.weight]
    split <;> (try split) <;> (try split) <;> omega
end
end
