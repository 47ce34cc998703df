noncomputable section
set_option linter.unusedVariables false
set_option linter.unusedSimpArgs false
/-! PLAIN 12: the twin's table -/
section
variable {S : PSt} {n : Nat} {FR : OhQ} {AN : OhN} {FI AI : OhI} {ca : Nat → PCa} {all : Nat} {cast : Nat → Nat → Int}
/-- who is cast in the rows -/
def MCs (all : Nat) (site : Nat) (cast : Nat → Nat → Int) (AI : OhI) : Prop := ∀ c r : Nat, c < all → r < 8 → AI site 0 (8 * (c : Int) + (r : Int)).toNat = J (cast c r)
theorem MCs.eqx_ {all site : Nat} {cast : Nat → Nat → Int} {AI AI2 : OhI} {L : List Nat} (h : MCs all site cast AI) (e : eqx L AI AI2) (hd : site ∉ L) : MCs all site cast AI2 := by
  intro c r hc hr; rw [e site hd]; exact h c r hc hr
theorem q4_enroll (hS : PStOk S) (h : MSt S FI AI) (hc : MCa all ca AI) (hs : MCs all 172 cast AI) (h66 : all ≤ 66) (hok : ∀ c, c < all → PCaOk S (ca c)) (hb : ∀ c r, c < all → r < 8 → -1 ≤ cast c r ∧ cast c r < S.nS) (hn : 10000 ≤ n) {c : Nat} (hcc : c < all) :
    ∃ v : Int32, mX4_enroll n FR AI AN (J c) = some (sA AI 177 0 (uA (AI 177 0) c v)) ∧ ∀ s : Nat, s < 20 → bt v s = anyN (S.op (ca c).op).nr (fun r => cast c r == s) := by
  have ho := (hok c hcc).op
  have hO := hS.nO
  have h8 := (hS.op _ ho).nr
  have hSn := hS.nS
  have key : wp (mX4_enroll n FR AI AN (J c)) (fun r => ∃ v : Int32, r = sA AI 177 0 (uA (AI 177 0) c v) ∧ ∀ s : Nat, s < 20 → bt v s = anyN (S.op (ca c).op).nr (fun r => cast c r == s)) := by
    unfold mX4_enroll
    ((repeat' (first | ((with_reducible apply wp_let); try dsimp only) | ((with_reducible apply wp_gdJ); (focus (first | ((simp (disch := omega) only [J_lit, J_add, J_sub, J_mul, J_neg, J_n, jle, jlt, jeq, jnn, jnat, Int.toNat_natCast, bJ_0, bJ_1, bft, gd_T, nar_J, nar_0, nar_1, if_true, if_false, Option.bind_some, gd_t]); rfl) | rfl)); (focus (first | exact True.intro | (first | exact vp_J (by omega) (by omega) (by omega) | omega)))) | ((with_reducible apply wp_ifJT); (focus (first | ((simp (disch := omega) only [J_lit, J_add, J_sub, J_mul, J_neg, J_n, jle, jlt, jeq, jnn, jnat, Int.toNat_natCast, bJ_0, bJ_1, bft, gd_T, nar_J, nar_0, nar_1, if_true, if_false, Option.bind_some, gd_t]); rfl) | rfl)); (focus (first | exact True.intro | omega))) | ((with_reducible apply wp_ifJF); (focus (first | ((simp (disch := omega) only [J_lit, J_add, J_sub, J_mul, J_neg, J_n, jle, jlt, jeq, jnn, jnat, Int.toNat_natCast, bJ_0, bJ_1, bft, gd_T, nar_J, nar_0, nar_1, if_true, if_false, Option.bind_some, gd_t]); rfl) | rfl)); (focus (first | exact not_false | omega))) | ((with_reducible apply wp_ifJ); (focus (first | ((simp (disch := omega) only [J_lit, J_add, J_sub, J_mul, J_neg, J_n, jle, jlt, jeq, jnn, jnat, Int.toNat_natCast, bJ_0, bJ_1, bft, gd_T, nar_J, nar_0, nar_1, if_true, if_false, Option.bind_some, gd_t]); rfl) | rfl)); all_goals intro _) | (with_reducible apply wp_some) | ((with_reducible apply wp_eli); try dsimp only) | ((with_reducible apply wp_elr); try dsimp only) | ((with_reducible apply wp_bindE); (focus ((simp (disch := omega) only [J_lit, J_add, J_sub, J_mul, J_neg, J_n, jle, jlt, jeq, jnn, jnat, Int.toNat_natCast, bJ_0, bJ_1, bft, gd_T, nar_J, nar_0, nar_1, if_true, if_false, Option.bind_some, gd_t]); rfl)); try dsimp only) | (with_reducible apply wp_bind))); all_goals (try (simp (disch := omega) only [J_lit, J_add, J_sub, J_mul, J_neg, J_n, jle, jlt, jeq, jnn, jnat, Int.toNat_natCast, bJ_0, bJ_1, bft, gd_T, nar_J, nar_0, nar_1, if_true, if_false, Option.bind_some, gd_t])))
    refine wp_mono (P := fun v11 => ∃ v : Int32, v11 = sA AI 177 0 (uA (AI 177 0) c v) ∧ ∀ s : Nat, s < 20 → bt v s = anyN (S.op (ca c).op).nr (fun r => cast c r == s)) ?_ (fun a ha => wp_some ha)
    refine wp_for (S.op (ca c).op).nr (fun k a => ∃ v : Int32, a = (J k, sA AI 177 0 (uA (AI 177 0) c v)) ∧ ∀ s : Nat, s < 20 → bt v s = anyN k (fun r => cast c r == s)) ?_ (k0 := 0) ⟨J 0, rfl, fun s _ => by rw [bt_0]; rfl⟩ (by omega) (by omega)
    rintro k a hk ⟨v, rfl, hv⟩
    have e1 : sA AI 177 0 (uA (AI 177 0) c v) 164 0 c = J (ca c).op := hc.co c hcc
    have e2 : sA AI 177 0 (uA (AI 177 0) c v) 111 0 (ca c).op = J (S.op (ca c).op).nr := h.nr _ ho
    have e3 : ∀ r : Nat, r < 8 → sA AI 177 0 (uA (AI 177 0) c v) 172 0 (8 * (c : Int) + (r : Int)).toNat = J (cast c r) := fun r hr => hs c r hcc hr
    have e4 : sA AI 177 0 (uA (AI 177 0) c v) 177 0 c = v := by rw [sA_same, uA_same]
    have e5 : ∀ w : Int32, sA (sA AI 177 0 (uA (AI 177 0) c v)) 177 0 (uA (sA AI 177 0 (uA (AI 177 0) c v) 177 0) c w) = sA AI 177 0 (uA (AI 177 0) c w) := by
      intro w
      rw [sA_sA, sA_same]
      congr 1
      funext j
      by_cases e : j = c <;> simp [uA_at, e]
    dsimp only
    unfold mX4_enroll_b9 mX4_enroll_j72
    by_cases hlt : k = (S.op (ca c).op).nr
    · subst hlt
      ((repeat' (first | ((with_reducible apply wp_let); try dsimp only) | ((with_reducible apply wp_gdJ); (focus (first | ((simp (disch := omega) only [J_lit, J_add, J_sub, J_mul, J_neg, J_n, jle, jlt, jeq, jnn, jnat, Int.toNat_natCast, bJ_0, bJ_1, bft, gd_T, nar_J, nar_0, nar_1, if_true, if_false, Option.bind_some, gd_t, e1, e2, e3]); rfl) | rfl)); (focus (first | exact True.intro | (first | exact vp_J (by omega) (by omega) (by omega) | omega)))) | ((with_reducible apply wp_ifJT); (focus (first | ((simp (disch := omega) only [J_lit, J_add, J_sub, J_mul, J_neg, J_n, jle, jlt, jeq, jnn, jnat, Int.toNat_natCast, bJ_0, bJ_1, bft, gd_T, nar_J, nar_0, nar_1, if_true, if_false, Option.bind_some, gd_t, e1, e2, e3]); rfl) | rfl)); (focus (first | exact True.intro | omega))) | ((with_reducible apply wp_ifJF); (focus (first | ((simp (disch := omega) only [J_lit, J_add, J_sub, J_mul, J_neg, J_n, jle, jlt, jeq, jnn, jnat, Int.toNat_natCast, bJ_0, bJ_1, bft, gd_T, nar_J, nar_0, nar_1, if_true, if_false, Option.bind_some, gd_t, e1, e2, e3]); rfl) | rfl)); (focus (first | exact not_false | omega))) | ((with_reducible apply wp_ifJ); (focus (first | ((simp (disch := omega) only [J_lit, J_add, J_sub, J_mul, J_neg, J_n, jle, jlt, jeq, jnn, jnat, Int.toNat_natCast, bJ_0, bJ_1, bft, gd_T, nar_J, nar_0, nar_1, if_true, if_false, Option.bind_some, gd_t, e1, e2, e3]); rfl) | rfl)); all_goals intro _) | (with_reducible apply wp_some) | ((with_reducible apply wp_eli); try dsimp only) | ((with_reducible apply wp_elr); try dsimp only) | ((with_reducible apply wp_bindE); (focus ((simp (disch := omega) only [J_lit, J_add, J_sub, J_mul, J_neg, J_n, jle, jlt, jeq, jnn, jnat, Int.toNat_natCast, bJ_0, bJ_1, bft, gd_T, nar_J, nar_0, nar_1, if_true, if_false, Option.bind_some, gd_t, e1, e2, e3]); rfl)); try dsimp only) | (with_reducible apply wp_bind))); all_goals (try (simp (disch := omega) only [J_lit, J_add, J_sub, J_mul, J_neg, J_n, jle, jlt, jeq, jnn, jnat, Int.toNat_natCast, bJ_0, bJ_1, bft, gd_T, nar_J, nar_0, nar_1, if_true, if_false, Option.bind_some, gd_t, e1, e2, e3])))
      exact ⟨v, rfl, hv⟩
    · have hbk := hb c k hcc (by omega)
      ((repeat' (first | ((with_reducible apply wp_let); try dsimp only) | ((with_reducible apply wp_gdJ); (focus (first | ((simp (disch := omega) only [J_lit, J_add, J_sub, J_mul, J_neg, J_n, jle, jlt, jeq, jnn, jnat, Int.toNat_natCast, bJ_0, bJ_1, bft, gd_T, nar_J, nar_0, nar_1, if_true, if_false, Option.bind_some, gd_t, e1, e2, e3, e4]); rfl) | rfl)); (focus (first | exact True.intro | (first | exact vp_J (by omega) (by omega) (by omega) | omega)))) | ((with_reducible apply wp_ifJT); (focus (first | ((simp (disch := omega) only [J_lit, J_add, J_sub, J_mul, J_neg, J_n, jle, jlt, jeq, jnn, jnat, Int.toNat_natCast, bJ_0, bJ_1, bft, gd_T, nar_J, nar_0, nar_1, if_true, if_false, Option.bind_some, gd_t, e1, e2, e3, e4]); rfl) | rfl)); (focus (first | exact True.intro | omega))) | ((with_reducible apply wp_ifJF); (focus (first | ((simp (disch := omega) only [J_lit, J_add, J_sub, J_mul, J_neg, J_n, jle, jlt, jeq, jnn, jnat, Int.toNat_natCast, bJ_0, bJ_1, bft, gd_T, nar_J, nar_0, nar_1, if_true, if_false, Option.bind_some, gd_t, e1, e2, e3, e4]); rfl) | rfl)); (focus (first | exact not_false | omega))) | ((with_reducible apply wp_ifJ); (focus (first | ((simp (disch := omega) only [J_lit, J_add, J_sub, J_mul, J_neg, J_n, jle, jlt, jeq, jnn, jnat, Int.toNat_natCast, bJ_0, bJ_1, bft, gd_T, nar_J, nar_0, nar_1, if_true, if_false, Option.bind_some, gd_t, e1, e2, e3, e4]); rfl) | rfl)); all_goals intro _) | (with_reducible apply wp_some) | ((with_reducible apply wp_eli); try dsimp only) | ((with_reducible apply wp_elr); try dsimp only) | ((with_reducible apply wp_bindE); (focus ((simp (disch := omega) only [J_lit, J_add, J_sub, J_mul, J_neg, J_n, jle, jlt, jeq, jnn, jnat, Int.toNat_natCast, bJ_0, bJ_1, bft, gd_T, nar_J, nar_0, nar_1, if_true, if_false, Option.bind_some, gd_t, e1, e2, e3, e4]); rfl)); try dsimp only) | (with_reducible apply wp_bind))); all_goals (try (simp (disch := omega) only [J_lit, J_add, J_sub, J_mul, J_neg, J_n, jle, jlt, jeq, jnn, jnat, Int.toNat_natCast, bJ_0, bJ_1, bft, gd_T, nar_J, nar_0, nar_1, if_true, if_false, Option.bind_some, gd_t, e1, e2, e3, e4])))
      · refine ⟨by omega, v ||| (J 1 <<< (J (cast c k) &&& J 31)), ?_, ?_⟩
        · rw [e5]; rfl
        · intro s hs2
          obtain ⟨m, hm⟩ : ∃ m : Nat, cast c k = m := ⟨(cast c k).toNat, by omega⟩
          rw [bt_or, hv s hs2, hm, bt_shl (by omega) (by omega)]
          simp only [anyN, hm]
          congr 1
          by_cases q : s = m
          · subst q; simp
          · simp [q, show ¬ ((m : Int) = (s : Int)) by omega]
      · refine ⟨by omega, v, ?_, ?_⟩
        · rw [e5]; rfl
        · intro s hs2
          rw [hv s hs2]
          simp only [anyN]
          simp [show ¬ (cast c k = (s : Int)) by omega]
  obtain ⟨r, e, v, rfl, hv⟩ := key
  exact ⟨v, e, hv⟩
end
end
