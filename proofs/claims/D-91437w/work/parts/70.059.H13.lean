noncomputable section
set_option linter.unusedVariables false
set_option linter.unusedSimpArgs false
/-! PLAIN 53: the house judges a role -/
def bl (A : OhI) (c r k : Nat) (b : Bool) : OhI := if b = true then sA A 422 c (uA (A 422 c) r (A 422 c r ||| (J 1 <<< (J k &&& J 31)))) else A
theorem bl_x {A : OhI} {c r k : Nat} {b : Bool} : eqx [422] A (bl A c r k b) := by
  unfold bl; split
  · exact eqx_sA (by decide)
  · exact eqx_refl
theorem bl_bt {A : OhI} {c r k : Nat} {b : Bool} {d q j : Nat} (hk : k < 32) (hj : j < 32) : bt (bl A c r k b 422 d q) j = (bt (A 422 d q) j || (decide (d = c ∧ q = r ∧ j = k) && b)) := by
  unfold bl
  cases b with
  | false => simp
  | true =>
    rw [if_pos rfl, Bool.and_true]
    by_cases h1 : d = c
    · subst h1
      rw [sA_same]
      by_cases h2 : q = r
      · subst h2; rw [uA_same, bt_or, bt_shl hk hj]; simp
      · rw [uA_ne _ _ h2]; simp [h2]
    · rw [sA_idx _ _ h1]; simp [h1]
def blF (T : PTb) (s c r : Nat) : OhI → List Nat → OhI
  | A, [] => A
  | A, k :: L => blF T s c r (bl A c r k (T.wr k s c r)) L
theorem blF_c {T : PTb} {s c r k : Nat} {b : Bool} {A : OhI} {L : List Nat} (w : T.wr k s c r = b) : blF T s c r (bl A c r k b) L = blF T s c r A (k :: L) := by subst w; rfl
theorem blF_x {T : PTb} {s c r : Nat} : ∀ {L : List Nat} {A : OhI}, eqx [422] A (blF T s c r A L)
  | [], A => eqx_refl
  | k :: L, A => eqx_trans bl_x blF_x
theorem blF_bt {T : PTb} {s c r : Nat} {d q j : Nat} (hj : j < 32) : ∀ {L : List Nat} {A : OhI}, (∀ k ∈ L, k < 32) → bt (blF T s c r A L 422 d q) j = (bt (A 422 d q) j || (decide (d = c ∧ q = r ∧ j ∈ L) && T.wr j s c r))
  | [], A, _ => by simp [blF]
  | k :: L, A, h => by
    rw [blF, blF_bt hj (fun k hk => h k (List.mem_cons_of_mem _ hk)), bl_bt (h k (by simp)) hj, Bool.or_assoc]
    congr 1
    by_cases e : j = k
    · subst e
      by_cases e1 : d = c <;> by_cases e2 : q = r <;> simp [e1, e2]
    · by_cases e1 : d = c <;> by_cases e2 : q = r <;> by_cases e3 : j ∈ L <;> simp [e1, e2, e3, e]
section
variable {T : PTb} {Z : PZ} {FI : OhI} {FR GR : OhQ} {AI : OhI} {AR BR : OhQ} {AN : OhN} {n : Nat}
theorem h_bl (h : HTb T Z FI FR GR AI BR AN) {c r k : Nat} (b : Bool) (hc : c < T.all) (h66 : T.all ≤ 66) (hr : r < 9) : mX1_blame FI FR AI AR BR AN (some (Z.c c)) (J r) (J k) (bJ b) = some (bl AI c r k b) := h_blame h hc h66 hr
theorem HTb.bl_ (h : HTb T Z FI FR GR AI BR AN) {c r k : Nat} {b : Bool} : HTb T Z FI FR GR (bl AI c r k b) BR AN := h.eqx_ bl_x (by decide)
theorem h_suits (h : HTb T Z FI FR GR AI BR AN) (hT : PTbOk T) {s c r : Nat} (hs : s < T.S.nS) (hc : c < T.all) {a : Rf} (hr : r < T.nr c) (ha : HRo ((T.o c).ro r) a FI) : mX7_suits FI (Z.s s) (some a) = some (bJ (T.suits s c r)) := by
  have k1 := h.sg s hs
  have k2 := hT.S.sg s hs
  have k3 := hT.o hc
  have v1 := k3.voice r hr
  have v2 := k3.tongue r hr
  have v3 := k3.size r hr
  have eA : oD 5 (some a) = some a := oD_of ha.kd
  have eabs := h_abs (a := (T.S.sg s).size - ((T.o c).ro r).size) (by have := k2.size; omega) (by have := k2.size; omega)
  have z := k2.size
  have q1 : bitJ (T.S.sg s).voices ((T.o c).ro r).voice = decide (((J (T.S.sg s).voices >>> (J ((T.o c).ro r).voice &&& J 31)) &&& J 1) = J 1) := rfl
  have q2 : bitJ (T.S.sg s).tongues ((T.o c).ro r).tongue = decide (((J (T.S.sg s).tongues >>> (J ((T.o c).ro r).tongue &&& J 31)) &&& J 1) = J 1) := rfl
  unfold PTb.suits
  rw [q1, q2]
  apply wp_eq
  unfold mX7_suits
  rw [eA, Option.bind_some, k1.voices, k1.tongues, k1.size, ha.voice, ha.tongue, ha.size, J_1, J_lit 31, J_0, J_sub, eabs, Option.bind_some]
  by_cases p1 : ((J (T.S.sg s).voices >>> (J ((T.o c).ro r).voice &&& J 31)) &&& J 1) = J 1
  · rw [if_pos p1, decide_eq_true p1]
    by_cases p2 : ((J (T.S.sg s).tongues >>> (J ((T.o c).ro r).tongue &&& J 31)) &&& J 1) = J 1
    · rw [if_pos p2, decide_eq_true p2]
      refine wp_ifJ (jlt (by omega) (by omega) (by split <;> omega) (by split <;> omega)) (fun p3 => ?_) (fun p3 => ?_)
      · refine wp_some (bJ_e0 ?_); simp only [Bool.true_and]; rw [decide_eq_false_iff_not]; split at p3 <;> omega
      · refine wp_some (bJ_e1 ?_); simp only [Bool.true_and]; rw [decide_eq_true_eq]; split at p3 <;> omega
    · rw [if_neg p2, decide_eq_false p2]; exact wp_some (bJ_e0 (by simp))
  · rw [if_neg p1, decide_eq_false p1]; exact wp_some (bJ_e0 (by simp))
/-- what judging a role rests on -/
def JR (T : PTb) (Z : PZ) (FI : OhI) (FR GR BR : OhQ) (AN : OhN) (s k r : Nat) (ct : Rf) : Prop :=
  (s < T.S.nS) ∧
  (k < T.all) ∧
  (r < T.nr (T.ord k)) ∧
  (GR (Z.s s).1 (Z.s s).2 4 = some ct) ∧
  (HCt (T.S.ct s) ct FI FR GR BR AN)
theorem JR.mk {T : PTb} {Z : PZ} {FI : OhI} {FR GR BR : OhQ} {AN : OhN} {s k r : Nat} {ct : Rf}
    (hs : s < T.S.nS)
    (hk : k < T.all)
    (hr : r < T.nr (T.ord k))
    (c1 : GR (Z.s s).1 (Z.s s).2 4 = some ct)
    (c2 : HCt (T.S.ct s) ct FI FR GR BR AN) :
    JR T Z FI FR GR BR AN s k r ct := ⟨hs, hk, hr, c1, c2⟩
theorem JR.hs {T : PTb} {Z : PZ} {FI : OhI} {FR GR BR : OhQ} {AN : OhN} {s k r : Nat} {ct : Rf} (h : JR T Z FI FR GR BR AN s k r ct) : s < T.S.nS := h.1
theorem JR.hk {T : PTb} {Z : PZ} {FI : OhI} {FR GR BR : OhQ} {AN : OhN} {s k r : Nat} {ct : Rf} (h : JR T Z FI FR GR BR AN s k r ct) : k < T.all := h.2.1
theorem JR.hr {T : PTb} {Z : PZ} {FI : OhI} {FR GR BR : OhQ} {AN : OhN} {s k r : Nat} {ct : Rf} (h : JR T Z FI FR GR BR AN s k r ct) : r < T.nr (T.ord k) := h.2.2.1
theorem JR.c1 {T : PTb} {Z : PZ} {FI : OhI} {FR GR BR : OhQ} {AN : OhN} {s k r : Nat} {ct : Rf} (h : JR T Z FI FR GR BR AN s k r ct) : GR (Z.s s).1 (Z.s s).2 4 = some ct := h.2.2.2.1
theorem JR.c2 {T : PTb} {Z : PZ} {FI : OhI} {FR GR BR : OhQ} {AN : OhN} {s k r : Nat} {ct : Rf} (h : JR T Z FI FR GR BR AN s k r ct) : HCt (T.S.ct s) ct FI FR GR BR AN := h.2.2.2.2
theorem jr15 (h : HTb T Z FI FR GR AI BR AN) (hT : PTbOk T) {k r : Nat} (hk : k < T.all) (hr : r < 9) (b : Bool) : mX1_judgeRole_j380 n FI FR GR AI AR BR AN (some (Z.c (T.ord k))) (J r) (J 15) (bJ b) = some (bl AI (T.ord k) r 15 b) := by
  have e := h_bl (AR := AR) (k := 15) h b (hT.ord k hk) hT.all hr
  unfold mX1_judgeRole_j380
  rw [show (J 15) = J ((15 : Nat) : Int) from rfl, e]; rfl
section
variable {s k r : Nat} {ct : Rf}
theorem jr14 (h : HTb T Z FI FR GR AI BR AN) (hT : PTbOk T) (hn : 10000 ≤ n) (q : JR T Z FI FR GR BR AN s k r ct) (b : Bool) :
    mX1_judgeRole_j348 n FI FR GR AI AR BR AN (J r) (some (Z.s s)) (some (Z.c (T.ord k))) (some ct) (some (Z.c (T.ord k))) (J r) (J 14) (bJ b) = some (blF T s (T.ord k) r (bl AI (T.ord k) r 14 b) [15]) := by
  have hc := hT.ord k q.hk
  have hb := hT.b hc
  have hr := q.hr
  have h20 := hT.S.nS
  have hs := q.hs
  have e0 : mX1_blame FI FR AI AR BR AN (some (Z.c (T.ord k))) (J r) (J 14) (bJ b) = _ := h_bl (AR := AR) (k := 14) h b hc hT.all (by omega : r < 9)
  have h2 := h.bl_ (c := T.ord k) (r := r) (k := 14) (b := b)
  generalize bl AI (T.ord k) r 14 b = A2 at e0 h2
  have e1 := h_tiredAt (AR := AR) h2 hT hn (s := s) (by omega) hc
  have f0 : mX1_judgeRole_j380 n FI FR GR A2 AR BR AN (some (Z.c (T.ord k))) (J r) (J 15) (J 0) = _ := jr15 (n := n) (AR := AR) h2 hT q.hk (by omega : r < 9) false
  have f1 : mX1_judgeRole_j380 n FI FR GR A2 AR BR AN (some (Z.c (T.ord k))) (J r) (J 15) (J 1) = _ := jr15 (n := n) (AR := AR) h2 hT q.hk (by omega : r < 9) true
  have v := (hT.S.ct s hs).voice
  have eK : oD 7 (some ct) = some ct := oD_of q.c2.kd
  have tb := tired_b hT (s := s) hc
  apply wp_eq
  unfold mX1_judgeRole_j348
  ((repeat' (first | ((with_reducible apply wp_let); try dsimp only) | ((with_reducible apply wp_gdJ); (focus (first | ((simp (disch := omega) only [J_lit, J_add, J_sub, J_mul, J_neg, J_n, jle, jlt, jeq, jnn, jnat, Int.toNat_natCast, bJ_0, bJ_1, bft, gd_T, nar_J, nar_0, nar_1, if_true, if_false, Option.bind_some, gd_t, e0, e1, h.sD hs, (h.sg s hs).num, eK, q.c2.voice, f0, f1]); rfl) | rfl)); (focus (first | exact True.intro | (first | exact vp_J (by omega) (by omega) (by omega) | omega)))) | ((with_reducible apply wp_ifJT); (focus (first | ((simp (disch := omega) only [J_lit, J_add, J_sub, J_mul, J_neg, J_n, jle, jlt, jeq, jnn, jnat, Int.toNat_natCast, bJ_0, bJ_1, bft, gd_T, nar_J, nar_0, nar_1, if_true, if_false, Option.bind_some, gd_t, decide_eq_false_iff_not, decide_eq_true_eq, e0, e1, h.sD hs, (h.sg s hs).num, eK, q.c2.voice, f0, f1]); rfl) | rfl)); (focus (first | exact True.intro | omega))) | ((with_reducible apply wp_ifJF); (focus (first | ((simp (disch := omega) only [J_lit, J_add, J_sub, J_mul, J_neg, J_n, jle, jlt, jeq, jnn, jnat, Int.toNat_natCast, bJ_0, bJ_1, bft, gd_T, nar_J, nar_0, nar_1, if_true, if_false, Option.bind_some, gd_t, decide_eq_false_iff_not, decide_eq_true_eq, e0, e1, h.sD hs, (h.sg s hs).num, eK, q.c2.voice, f0, f1]); rfl) | rfl)); (focus (first | exact not_false | omega))) | ((with_reducible apply wp_ifJ); (focus (first | ((simp (disch := omega) only [J_lit, J_add, J_sub, J_mul, J_neg, J_n, jle, jlt, jeq, jnn, jnat, Int.toNat_natCast, bJ_0, bJ_1, bft, gd_T, nar_J, nar_0, nar_1, if_true, if_false, Option.bind_some, gd_t, decide_eq_false_iff_not, decide_eq_true_eq, e0, e1, h.sD hs, (h.sg s hs).num, eK, q.c2.voice, f0, f1]); rfl) | rfl)); all_goals intro _) | (with_reducible apply wp_some) | ((with_reducible apply wp_eli); try dsimp only) | ((with_reducible apply wp_elr); try dsimp only) | ((with_reducible apply wp_bindE); (focus ((simp (disch := omega) only [J_lit, J_add, J_sub, J_mul, J_neg, J_n, jle, jlt, jeq, jnn, jnat, Int.toNat_natCast, bJ_0, bJ_1, bft, gd_T, nar_J, nar_0, nar_1, if_true, if_false, Option.bind_some, gd_t, e0, e1, h.sD hs, (h.sg s hs).num, eK, q.c2.voice, f0, f1]); rfl)); try dsimp only) | (with_reducible apply wp_bind))); all_goals (try (simp (disch := omega) only [J_lit, J_add, J_sub, J_mul, J_neg, J_n, jle, jlt, jeq, jnn, jnat, Int.toNat_natCast, bJ_0, bJ_1, bft, gd_T, nar_J, nar_0, nar_1, if_true, if_false, Option.bind_some, gd_t, e0, e1, h.sD hs, (h.sg s hs).num, eK, q.c2.voice, f0, f1])))
  · rename_i z; refine wp_some (blF_c (L := []) (show T.wr 15 s (T.ord k) r = false by simp [PTb.wr]; omega))
  · rename_i z; refine wp_some (blF_c (L := []) (show T.wr 15 s (T.ord k) r = true by simp [PTb.wr]; omega))
theorem jr13 (h : HTb T Z FI FR GR AI BR AN) (hT : PTbOk T) (hn : 10000 ≤ n) (q : JR T Z FI FR GR BR AN s k r ct) (b : Bool) :
    mX1_judgeRole_j305 n FI FR GR AI AR BR AN (J r) (some (Z.s s)) (some (Z.c (T.ord k))) (some ct) (some (Z.c (T.ord k))) (J r) (J 13) (bJ b) = some (blF T s (T.ord k) r (bl AI (T.ord k) r 13 b) [14, 15]) := by
  have hc := hT.ord k q.hk
  have hb := hT.b hc
  have hr := q.hr
  have h20 := hT.S.nS
  have hs := q.hs
  have e0 : mX1_blame FI FR AI AR BR AN (some (Z.c (T.ord k))) (J r) (J 13) (bJ b) = _ := h_bl (AR := AR) (k := 13) h b hc hT.all (by omega : r < 9)
  have h2 := h.bl_ (c := T.ord k) (r := r) (k := 13) (b := b)
  generalize bl AI (T.ord k) r 13 b = A2 at e0 h2
  have e1 := h_nightsOf (AR := AR) h2 hT hn (s := s) (by omega) hc (days := 7) (by omega)
  have f0 : mX1_judgeRole_j348 n FI FR GR A2 AR BR AN (J r) (some (Z.s s)) (some (Z.c (T.ord k))) (some ct) (some (Z.c (T.ord k))) (J r) (J 14) (J 0) = _ := jr14 (n := n) (AR := AR) h2 hT hn q false
  have f1 : mX1_judgeRole_j348 n FI FR GR A2 AR BR AN (J r) (some (Z.s s)) (some (Z.c (T.ord k))) (some ct) (some (Z.c (T.ord k))) (J r) (J 14) (J 1) = _ := jr14 (n := n) (AR := AR) h2 hT hn q true
  have v := (hT.S.ct s hs).week
  have eK : oD 7 (some ct) = some ct := oD_of q.c2.kd
  have tb := nights_b hT (s := s) (d := 7) hc
  apply wp_eq
  unfold mX1_judgeRole_j305 mX1_judgeRole_j347
  ((repeat' (first | ((with_reducible apply wp_let); try dsimp only) | ((with_reducible apply wp_gdJ); (focus (first | ((simp (disch := omega) only [J_lit, J_add, J_sub, J_mul, J_neg, J_n, jle, jlt, jeq, jnn, jnat, Int.toNat_natCast, bJ_0, bJ_1, bft, gd_T, nar_J, nar_0, nar_1, if_true, if_false, Option.bind_some, gd_t, e0, e1, h.sD hs, (h.sg s hs).num, h.cD hc, (h.ca _ hc).kind, eK, q.c2.week, f0, f1]); rfl) | rfl)); (focus (first | exact True.intro | (first | exact vp_J (by omega) (by omega) (by omega) | omega)))) | ((with_reducible apply wp_ifJT); (focus (first | ((simp (disch := omega) only [J_lit, J_add, J_sub, J_mul, J_neg, J_n, jle, jlt, jeq, jnn, jnat, Int.toNat_natCast, bJ_0, bJ_1, bft, gd_T, nar_J, nar_0, nar_1, if_true, if_false, Option.bind_some, gd_t, decide_eq_false_iff_not, decide_eq_true_eq, e0, e1, h.sD hs, (h.sg s hs).num, h.cD hc, (h.ca _ hc).kind, eK, q.c2.week, f0, f1]); rfl) | rfl)); (focus (first | exact True.intro | omega))) | ((with_reducible apply wp_ifJF); (focus (first | ((simp (disch := omega) only [J_lit, J_add, J_sub, J_mul, J_neg, J_n, jle, jlt, jeq, jnn, jnat, Int.toNat_natCast, bJ_0, bJ_1, bft, gd_T, nar_J, nar_0, nar_1, if_true, if_false, Option.bind_some, gd_t, decide_eq_false_iff_not, decide_eq_true_eq, e0, e1, h.sD hs, (h.sg s hs).num, h.cD hc, (h.ca _ hc).kind, eK, q.c2.week, f0, f1]); rfl) | rfl)); (focus (first | exact not_false | omega))) | ((with_reducible apply wp_ifJ); (focus (first | ((simp (disch := omega) only [J_lit, J_add, J_sub, J_mul, J_neg, J_n, jle, jlt, jeq, jnn, jnat, Int.toNat_natCast, bJ_0, bJ_1, bft, gd_T, nar_J, nar_0, nar_1, if_true, if_false, Option.bind_some, gd_t, decide_eq_false_iff_not, decide_eq_true_eq, e0, e1, h.sD hs, (h.sg s hs).num, h.cD hc, (h.ca _ hc).kind, eK, q.c2.week, f0, f1]); rfl) | rfl)); all_goals intro _) | (with_reducible apply wp_some) | ((with_reducible apply wp_eli); try dsimp only) | ((with_reducible apply wp_elr); try dsimp only) | ((with_reducible apply wp_bindE); (focus ((simp (disch := omega) only [J_lit, J_add, J_sub, J_mul, J_neg, J_n, jle, jlt, jeq, jnn, jnat, Int.toNat_natCast, bJ_0, bJ_1, bft, gd_T, nar_J, nar_0, nar_1, if_true, if_false, Option.bind_some, gd_t, e0, e1, h.sD hs, (h.sg s hs).num, h.cD hc, (h.ca _ hc).kind, eK, q.c2.week, f0, f1]); rfl)); try dsimp only) | (with_reducible apply wp_bind))); all_goals (try (simp (disch := omega) only [J_lit, J_add, J_sub, J_mul, J_neg, J_n, jle, jlt, jeq, jnn, jnat, Int.toNat_natCast, bJ_0, bJ_1, bft, gd_T, nar_J, nar_0, nar_1, if_true, if_false, Option.bind_some, gd_t, e0, e1, h.sD hs, (h.sg s hs).num, h.cD hc, (h.ca _ hc).kind, eK, q.c2.week, f0, f1])))
  · exact wp_some (blF_c (show T.wr 14 s (T.ord k) r = false by simp [PTb.wr]; omega))
  · exact wp_some (blF_c (show T.wr 14 s (T.ord k) r = true by simp [PTb.wr]; omega))
  · exact wp_some (blF_c (show T.wr 14 s (T.ord k) r = false by simp [PTb.wr]; omega))
theorem jr12 (h : HTb T Z FI FR GR AI BR AN) (hT : PTbOk T) (hn : 10000 ≤ n) (q : JR T Z FI FR GR BR AN s k r ct) (b : Bool) :
    mX1_judgeRole_j271 n FI FR GR AI AR BR AN (J r) (some (Z.s s)) (some (Z.c (T.ord k))) (some ct) (some (Z.c (T.ord k))) (J r) (J 12) (bJ b) = some (blF T s (T.ord k) r (bl AI (T.ord k) r 12 b) [13, 14, 15]) := by
  have hc := hT.ord k q.hk
  have hb := hT.b hc
  have hr := q.hr
  have h20 := hT.S.nS
  have hs := q.hs
  have e0 : mX1_blame FI FR AI AR BR AN (some (Z.c (T.ord k))) (J r) (J 12) (bJ b) = _ := h_bl (AR := AR) (k := 12) h b hc hT.all (by omega : r < 9)
  have h2 := h.bl_ (c := T.ord k) (r := r) (k := 12) (b := b)
  generalize bl AI (T.ord k) r 12 b = A2 at e0 h2
  have e1 := h_hoursOn (AR := AR) h2 hT hn (s := s) (by omega) hc
  have f0 : mX1_judgeRole_j305 n FI FR GR A2 AR BR AN (J r) (some (Z.s s)) (some (Z.c (T.ord k))) (some ct) (some (Z.c (T.ord k))) (J r) (J 13) (J 0) = _ := jr13 (n := n) (AR := AR) h2 hT hn q false
  have f1 : mX1_judgeRole_j305 n FI FR GR A2 AR BR AN (J r) (some (Z.s s)) (some (Z.c (T.ord k))) (some ct) (some (Z.c (T.ord k))) (J r) (J 13) (J 1) = _ := jr13 (n := n) (AR := AR) h2 hT hn q true
  have v := (hT.S.ct s hs).day
  have eK : oD 7 (some ct) = some ct := oD_of q.c2.kd
  have tb := dayHours_b hT (s := s) hc
  apply wp_eq
  unfold mX1_judgeRole_j271
  ((repeat' (first | ((with_reducible apply wp_let); try dsimp only) | ((with_reducible apply wp_gdJ); (focus (first | ((simp (disch := omega) only [J_lit, J_add, J_sub, J_mul, J_neg, J_n, jle, jlt, jeq, jnn, jnat, Int.toNat_natCast, bJ_0, bJ_1, bft, gd_T, nar_J, nar_0, nar_1, if_true, if_false, Option.bind_some, gd_t, e0, e1, h.sD hs, (h.sg s hs).num, eK, q.c2.day, f0, f1]); rfl) | rfl)); (focus (first | exact True.intro | (first | exact vp_J (by omega) (by omega) (by omega) | omega)))) | ((with_reducible apply wp_ifJT); (focus (first | ((simp (disch := omega) only [J_lit, J_add, J_sub, J_mul, J_neg, J_n, jle, jlt, jeq, jnn, jnat, Int.toNat_natCast, bJ_0, bJ_1, bft, gd_T, nar_J, nar_0, nar_1, if_true, if_false, Option.bind_some, gd_t, decide_eq_false_iff_not, decide_eq_true_eq, e0, e1, h.sD hs, (h.sg s hs).num, eK, q.c2.day, f0, f1]); rfl) | rfl)); (focus (first | exact True.intro | omega))) | ((with_reducible apply wp_ifJF); (focus (first | ((simp (disch := omega) only [J_lit, J_add, J_sub, J_mul, J_neg, J_n, jle, jlt, jeq, jnn, jnat, Int.toNat_natCast, bJ_0, bJ_1, bft, gd_T, nar_J, nar_0, nar_1, if_true, if_false, Option.bind_some, gd_t, decide_eq_false_iff_not, decide_eq_true_eq, e0, e1, h.sD hs, (h.sg s hs).num, eK, q.c2.day, f0, f1]); rfl) | rfl)); (focus (first | exact not_false | omega))) | ((with_reducible apply wp_ifJ); (focus (first | ((simp (disch := omega) only [J_lit, J_add, J_sub, J_mul, J_neg, J_n, jle, jlt, jeq, jnn, jnat, Int.toNat_natCast, bJ_0, bJ_1, bft, gd_T, nar_J, nar_0, nar_1, if_true, if_false, Option.bind_some, gd_t, decide_eq_false_iff_not, decide_eq_true_eq, e0, e1, h.sD hs, (h.sg s hs).num, eK, q.c2.day, f0, f1]); rfl) | rfl)); all_goals intro _) | (with_reducible apply wp_some) | ((with_reducible apply wp_eli); try dsimp only) | ((with_reducible apply wp_elr); try dsimp only) | ((with_reducible apply wp_bindE); (focus ((simp (disch := omega) only [J_lit, J_add, J_sub, J_mul, J_neg, J_n, jle, jlt, jeq, jnn, jnat, Int.toNat_natCast, bJ_0, bJ_1, bft, gd_T, nar_J, nar_0, nar_1, if_true, if_false, Option.bind_some, gd_t, e0, e1, h.sD hs, (h.sg s hs).num, eK, q.c2.day, f0, f1]); rfl)); try dsimp only) | (with_reducible apply wp_bind))); all_goals (try (simp (disch := omega) only [J_lit, J_add, J_sub, J_mul, J_neg, J_n, jle, jlt, jeq, jnn, jnat, Int.toNat_natCast, bJ_0, bJ_1, bft, gd_T, nar_J, nar_0, nar_1, if_true, if_false, Option.bind_some, gd_t, e0, e1, h.sD hs, (h.sg s hs).num, eK, q.c2.day, f0, f1])))
  · exact wp_some (blF_c (show T.wr 13 s (T.ord k) r = false by simp [PTb.wr]; omega))
  · exact wp_some (blF_c (show T.wr 13 s (T.ord k) r = true by simp [PTb.wr]; omega))
theorem h_sung (h : HTb T Z FI FR GR AI BR AN) (hT : PTbOk T) (hn : 10000 ≤ n) (q : JR T Z FI FR GR BR AN s k r ct) :
    lpF (fun v : OhR × Int32 => mX1_judgeRole_b171 n FI FR GR AI AR BR AN (J k) (J r) (some (Z.s s)) (some (Z.c (T.ord k))) (some ct) v.1 v.2) n (none, J 0) = some ((T.sung s k).map Z.c) := by
  have hk := q.hk
  have h66 := hT.all
  have h20 := hT.S.nS
  have hs := q.hs
  refine wp_fold (fun i => ((T.sung s i).map Z.c, J (i : Int))) _ k ?_ ?_ (by omega) rfl
  · intro i hi
    have ho := hT.ord i (by omega)
    have hb := hT.b ho
    dsimp only
    unfold mX1_judgeRole_b171
    ((repeat' (first | ((with_reducible apply wp_let); try dsimp only) | ((with_reducible apply wp_gdJ); (focus (first | ((simp (disch := omega) only [J_lit, J_add, J_sub, J_mul, J_neg, J_n, jle, jlt, jeq, jnn, jnat, Int.toNat_natCast, bJ_0, bJ_1, bft, gd_T, nar_J, nar_0, nar_1, if_true, if_false, Option.bind_some, gd_t, h.order, h.cD ho, h_isSung h hT ho, h.sD hs, (h.sg s hs).num, h_isCast h hT hn (s := (s : Int)) (by omega) (by omega) ho]); rfl) | rfl)); (focus (first | exact True.intro | (first | exact vp_J (by omega) (by omega) (by omega) | omega)))) | ((with_reducible apply wp_ifJT); (focus (first | ((simp (disch := omega) only [J_lit, J_add, J_sub, J_mul, J_neg, J_n, jle, jlt, jeq, jnn, jnat, Int.toNat_natCast, bJ_0, bJ_1, bft, gd_T, nar_J, nar_0, nar_1, if_true, if_false, Option.bind_some, gd_t, decide_eq_false_iff_not, decide_eq_true_eq, h.order, h.cD ho, h_isSung h hT ho, h.sD hs, (h.sg s hs).num, h_isCast h hT hn (s := (s : Int)) (by omega) (by omega) ho]); rfl) | rfl)); (focus (first | exact True.intro | omega))) | ((with_reducible apply wp_ifJF); (focus (first | ((simp (disch := omega) only [J_lit, J_add, J_sub, J_mul, J_neg, J_n, jle, jlt, jeq, jnn, jnat, Int.toNat_natCast, bJ_0, bJ_1, bft, gd_T, nar_J, nar_0, nar_1, if_true, if_false, Option.bind_some, gd_t, decide_eq_false_iff_not, decide_eq_true_eq, h.order, h.cD ho, h_isSung h hT ho, h.sD hs, (h.sg s hs).num, h_isCast h hT hn (s := (s : Int)) (by omega) (by omega) ho]); rfl) | rfl)); (focus (first | exact not_false | omega))) | ((with_reducible apply wp_ifJ); (focus (first | ((simp (disch := omega) only [J_lit, J_add, J_sub, J_mul, J_neg, J_n, jle, jlt, jeq, jnn, jnat, Int.toNat_natCast, bJ_0, bJ_1, bft, gd_T, nar_J, nar_0, nar_1, if_true, if_false, Option.bind_some, gd_t, decide_eq_false_iff_not, decide_eq_true_eq, h.order, h.cD ho, h_isSung h hT ho, h.sD hs, (h.sg s hs).num, h_isCast h hT hn (s := (s : Int)) (by omega) (by omega) ho]); rfl) | rfl)); all_goals intro _) | (with_reducible apply wp_some) | ((with_reducible apply wp_eli); try dsimp only) | ((with_reducible apply wp_elr); try dsimp only) | ((with_reducible apply wp_bindE); (focus ((simp (disch := omega) only [J_lit, J_add, J_sub, J_mul, J_neg, J_n, jle, jlt, jeq, jnn, jnat, Int.toNat_natCast, bJ_0, bJ_1, bft, gd_T, nar_J, nar_0, nar_1, if_true, if_false, Option.bind_some, gd_t, h.order, h.cD ho, h_isSung h hT ho, h.sD hs, (h.sg s hs).num, h_isCast h hT hn (s := (s : Int)) (by omega) (by omega) ho]); rfl)); try dsimp only) | (with_reducible apply wp_bind))); all_goals (try (simp (disch := omega) only [J_lit, J_add, J_sub, J_mul, J_neg, J_n, jle, jlt, jeq, jnn, jnat, Int.toNat_natCast, bJ_0, bJ_1, bft, gd_T, nar_J, nar_0, nar_1, if_true, if_false, Option.bind_some, gd_t, h.order, h.cD ho, h_isSung h hT ho, h.sD hs, (h.sg s hs).num, h_isCast h hT hn (s := (s : Int)) (by omega) (by omega) ho])))
    all_goals (simp only [LR_l, PTb.sung])
    · rw [if_neg (by omega)]; rfl
    · rw [if_neg (by simp_all)]; rfl
    · rw [if_pos (by simp_all)]; rfl
  · dsimp only
    unfold mX1_judgeRole_b171
    ((repeat' (first | ((with_reducible apply wp_let); try dsimp only) | ((with_reducible apply wp_gdJ); (focus (first | ((simp (disch := omega) only [J_lit, J_add, J_sub, J_mul, J_neg, J_n, jle, jlt, jeq, jnn, jnat, Int.toNat_natCast, bJ_0, bJ_1, bft, gd_T, nar_J, nar_0, nar_1, if_true, if_false, Option.bind_some, gd_t]); rfl) | rfl)); (focus (first | exact True.intro | (first | exact vp_J (by omega) (by omega) (by omega) | omega)))) | ((with_reducible apply wp_ifJT); (focus (first | ((simp (disch := omega) only [J_lit, J_add, J_sub, J_mul, J_neg, J_n, jle, jlt, jeq, jnn, jnat, Int.toNat_natCast, bJ_0, bJ_1, bft, gd_T, nar_J, nar_0, nar_1, if_true, if_false, Option.bind_some, gd_t, decide_eq_false_iff_not, decide_eq_true_eq]); rfl) | rfl)); (focus (first | exact True.intro | omega))) | ((with_reducible apply wp_ifJF); (focus (first | ((simp (disch := omega) only [J_lit, J_add, J_sub, J_mul, J_neg, J_n, jle, jlt, jeq, jnn, jnat, Int.toNat_natCast, bJ_0, bJ_1, bft, gd_T, nar_J, nar_0, nar_1, if_true, if_false, Option.bind_some, gd_t, decide_eq_false_iff_not, decide_eq_true_eq]); rfl) | rfl)); (focus (first | exact not_false | omega))) | ((with_reducible apply wp_ifJ); (focus (first | ((simp (disch := omega) only [J_lit, J_add, J_sub, J_mul, J_neg, J_n, jle, jlt, jeq, jnn, jnat, Int.toNat_natCast, bJ_0, bJ_1, bft, gd_T, nar_J, nar_0, nar_1, if_true, if_false, Option.bind_some, gd_t, decide_eq_false_iff_not, decide_eq_true_eq]); rfl) | rfl)); all_goals intro _) | (with_reducible apply wp_some) | ((with_reducible apply wp_eli); try dsimp only) | ((with_reducible apply wp_elr); try dsimp only) | ((with_reducible apply wp_bindE); (focus ((simp (disch := omega) only [J_lit, J_add, J_sub, J_mul, J_neg, J_n, jle, jlt, jeq, jnn, jnat, Int.toNat_natCast, bJ_0, bJ_1, bft, gd_T, nar_J, nar_0, nar_1, if_true, if_false, Option.bind_some, gd_t]); rfl)); try dsimp only) | (with_reducible apply wp_bind))); all_goals (try (simp (disch := omega) only [J_lit, J_add, J_sub, J_mul, J_neg, J_n, jle, jlt, jeq, jnn, jnat, Int.toNat_natCast, bJ_0, bJ_1, bft, gd_T, nar_J, nar_0, nar_1, if_true, if_false, Option.bind_some, gd_t])))
    rfl
end
end
end
