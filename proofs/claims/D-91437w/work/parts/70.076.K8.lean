noncomputable section
set_option linter.unusedVariables false
set_option linter.unusedSimpArgs false
/-! PLAIN 71: the house is told: scalars and the tape -/
section
variable {L0 LA : List Nat} {C : OhC} {FI FI2 : OhI} {FR GR : OhQ} {AI AI2 : OhI} {AR BR : OhQ} {AN : OhN} {S : PSt} {Z : PZ} {n : Nat}
theorem HKa.sc (hf : ∀ s i, ¬ (s = 0 ∧ i = 0) → FI2 s i = FI s i) (h0 : ∀ k, k ∉ L0 → FI2 0 0 k = FI 0 0 k) (ha : ∀ s, s ∉ LA → AI2 s = AI s) : HKa L0 LA C C (6, C 6) FI FI2 FR FR GR GR AI AI2 BR BR AN AN :=
  ⟨fun a _ h _ => hf _ _ (fun q => h (Prod.ext q.1 q.2)), h0, fun _ _ => rfl, fun _ _ _ => rfl, fun a _ h => by rw [ha _ h], fun _ _ _ => rfl, fun _ _ _ => rfl, fun _ _ => rfl, fun _ => Nat.le_refl _, show ohKd 6 = 17 by decide, fun x h1 _ q => by
    rw [q] at h1
    exact Nat.lt_irrefl _ (h1 ⟨by show 4 ≤ 6; omega, by show 6 ≤ 36; omega⟩)⟩
/-- nothing but scalars is told -/
def PSame (S S2 : PSt) : Prop :=
  (S2.nO = S.nO) ∧
  (S2.op = S.op) ∧
  (S2.nS = S.nS) ∧
  (S2.sg = S.sg) ∧
  (S2.ct = S.ct) ∧
  (S2.nC = S.nC) ∧
  (S2.ca = S.ca) ∧
  (S2.nP = S.nP) ∧
  (S2.pt = S.pt) ∧
  (S2.nI = S.nI) ∧
  (S2.il = S.il) ∧
  (S2.nL = S.nL) ∧
  (S2.le = S.le) ∧
  (S2.nF = S.nF) ∧
  (S2.fk = S.fk) ∧
  (S2.fc = S.fc) ∧
  (S2.fr = S.fr) ∧
  (S2.laidN = S.laidN) ∧
  (S2.laidDay = S.laidDay) ∧
  (S2.laidOp = S.laidOp) ∧
  (S2.laidHour = S.laidHour) ∧
  (S2.laidStamp = S.laidStamp)
theorem PSame.mk {S S2 : PSt}
    (nO : S2.nO = S.nO)
    (op : S2.op = S.op)
    (nS : S2.nS = S.nS)
    (sg : S2.sg = S.sg)
    (ct : S2.ct = S.ct)
    (nC : S2.nC = S.nC)
    (ca : S2.ca = S.ca)
    (nP : S2.nP = S.nP)
    (pt : S2.pt = S.pt)
    (nI : S2.nI = S.nI)
    (il : S2.il = S.il)
    (nL : S2.nL = S.nL)
    (le : S2.le = S.le)
    (nF : S2.nF = S.nF)
    (fk : S2.fk = S.fk)
    (fc : S2.fc = S.fc)
    (fr : S2.fr = S.fr)
    (laidN : S2.laidN = S.laidN)
    (laidDay : S2.laidDay = S.laidDay)
    (laidOp : S2.laidOp = S.laidOp)
    (laidHour : S2.laidHour = S.laidHour)
    (laidStamp : S2.laidStamp = S.laidStamp) :
    PSame S S2 := ⟨nO, op, nS, sg, ct, nC, ca, nP, pt, nI, il, nL, le, nF, fk, fc, fr, laidN, laidDay, laidOp, laidHour, laidStamp⟩
theorem PSame.nO {S S2 : PSt} (h : PSame S S2) : S2.nO = S.nO := h.1
theorem PSame.op {S S2 : PSt} (h : PSame S S2) : S2.op = S.op := h.2.1
theorem PSame.nS {S S2 : PSt} (h : PSame S S2) : S2.nS = S.nS := h.2.2.1
theorem PSame.sg {S S2 : PSt} (h : PSame S S2) : S2.sg = S.sg := h.2.2.2.1
theorem PSame.ct {S S2 : PSt} (h : PSame S S2) : S2.ct = S.ct := h.2.2.2.2.1
theorem PSame.nC {S S2 : PSt} (h : PSame S S2) : S2.nC = S.nC := h.2.2.2.2.2.1
theorem PSame.ca {S S2 : PSt} (h : PSame S S2) : S2.ca = S.ca := h.2.2.2.2.2.2.1
theorem PSame.nP {S S2 : PSt} (h : PSame S S2) : S2.nP = S.nP := h.2.2.2.2.2.2.2.1
theorem PSame.pt {S S2 : PSt} (h : PSame S S2) : S2.pt = S.pt := h.2.2.2.2.2.2.2.2.1
theorem PSame.nI {S S2 : PSt} (h : PSame S S2) : S2.nI = S.nI := h.2.2.2.2.2.2.2.2.2.1
theorem PSame.il {S S2 : PSt} (h : PSame S S2) : S2.il = S.il := h.2.2.2.2.2.2.2.2.2.2.1
theorem PSame.nL {S S2 : PSt} (h : PSame S S2) : S2.nL = S.nL := h.2.2.2.2.2.2.2.2.2.2.2.1
theorem PSame.le {S S2 : PSt} (h : PSame S S2) : S2.le = S.le := h.2.2.2.2.2.2.2.2.2.2.2.2.1
theorem PSame.nF {S S2 : PSt} (h : PSame S S2) : S2.nF = S.nF := h.2.2.2.2.2.2.2.2.2.2.2.2.2.1
theorem PSame.fk {S S2 : PSt} (h : PSame S S2) : S2.fk = S.fk := h.2.2.2.2.2.2.2.2.2.2.2.2.2.2.1
theorem PSame.fc {S S2 : PSt} (h : PSame S S2) : S2.fc = S.fc := h.2.2.2.2.2.2.2.2.2.2.2.2.2.2.2.1
theorem PSame.fr {S S2 : PSt} (h : PSame S S2) : S2.fr = S.fr := h.2.2.2.2.2.2.2.2.2.2.2.2.2.2.2.2.1
theorem PSame.laidN {S S2 : PSt} (h : PSame S S2) : S2.laidN = S.laidN := h.2.2.2.2.2.2.2.2.2.2.2.2.2.2.2.2.2.1
theorem PSame.laidDay {S S2 : PSt} (h : PSame S S2) : S2.laidDay = S.laidDay := h.2.2.2.2.2.2.2.2.2.2.2.2.2.2.2.2.2.2.1
theorem PSame.laidOp {S S2 : PSt} (h : PSame S S2) : S2.laidOp = S.laidOp := h.2.2.2.2.2.2.2.2.2.2.2.2.2.2.2.2.2.2.2.1
theorem PSame.laidHour {S S2 : PSt} (h : PSame S S2) : S2.laidHour = S.laidHour := h.2.2.2.2.2.2.2.2.2.2.2.2.2.2.2.2.2.2.2.2.1
theorem PSame.laidStamp {S S2 : PSt} (h : PSame S S2) : S2.laidStamp = S.laidStamp := h.2.2.2.2.2.2.2.2.2.2.2.2.2.2.2.2.2.2.2.2.2
theorem HSt.sc (h : HSt S Z FI FR GR AI BR AN) (w : HWf C FR GR BR AN) (x : HKp C (6, C 6) FI FI2 FR FR GR GR AI AI2 BR BR AN AN) {S2 : PSt} (e : PSame S S2) (d4 : FI2 0 0 4 = J S2.daily) (d5 : FI2 0 0 5 = J S2.weekly) (d3 : FI2 0 0 3 = J S2.today) (d7 : ∀ g, g < 4 → AI2 307 0 g = J (S2.one g)) (d8 : ∀ g, g < 4 → AI2 308 0 g = J (S2.other g)) : HSt S2 Z FI2 FR GR AI2 BR AN := by
  have hne : ∀ s, 309 ≤ s → ((s, 0) : Rf) ≠ (6, C 6) := fun s h1 q => by
    have : s = 6 := congrArg Prod.fst q
    omega
  exact (HSt.mk (daily := d4) (weekly := d5) (today := d3) (one := d7) (other := d8) (opL := by rw [e.nO]; exact h.opL.kp w x (old_base (by decide)) (hne _ (by decide))) (op := fun o ho => by rw [e.nO] at ho; rw [e.op]; exact (h.op o ho).kp w x (h.opL.old w ho)) (sgL := by rw [e.nS]; exact h.sgL.kp w x (old_base (by decide)) (hne _ (by decide))) (sg := fun s hs => by rw [e.nS] at hs; rw [e.sg, e.ct]; exact (h.sg s hs).kp w x (h.sgL.old w hs)) (caL := by rw [e.nC]; exact h.caL.kp w x (old_base (by decide)) (hne _ (by decide))) (ptL := by rw [e.nP]; exact h.ptL.kp w x (old_base (by decide)) (hne _ (by decide))) (pt := fun k hk => by
      rw [e.nP] at hk
      have q := h.pt k hk
      obtain ⟨e1, _, _⟩ := x.of q.1 (by omega) (by omega) (h.ptL.old w hk)
      rw [e.pt, e1]; exact q) (ilL := by rw [e.nI]; exact h.ilL.kp w x (old_base (by decide)) (hne _ (by decide))) (il := fun k hk => by
      rw [e.nI] at hk
      have q := h.il k hk
      obtain ⟨e1, _, _⟩ := x.of q.1 (by omega) (by omega) (h.ilL.old w hk)
      rw [e.il, e1]; exact q) (leL := by rw [e.nL]; exact h.leL.kp w x (old_base (by decide)) (hne _ (by decide))) (le := fun k hk => by
      rw [e.nL] at hk
      have q := h.le k hk
      obtain ⟨e1, _, _⟩ := x.of q.1 (by omega) (by omega) (h.leL.old w hk)
      rw [e.le, e1]; exact q) (oinj := fun i j hi hj => h.oinj i j (by rw [← e.nO]; exact hi) (by rw [← e.nO]; exact hj)))
/-- scalars are told; the stamp stands, or is new -/
theorem HInv.sc (h : HInv S Z FI FR GR AI AR BR AN C) (hf : ∀ s i, ¬ (s = 0 ∧ i = 0) → FI2 s i = FI s i) (h0 : ∀ k, k ∉ L0 → FI2 0 0 k = FI 0 0 k) (ha : ∀ s, s ∉ LA → AI2 s = AI s) (hA : ∀ k ∈ LA, k ∈ [300, 307, 308]) (q1 : 35 ∉ L0) (q2 : 36 ∉ L0) {S2 : PSt} (e : PSame S S2)
    (d4 : FI2 0 0 4 = J S2.daily) (d5 : FI2 0 0 5 = J S2.weekly) (d3 : FI2 0 0 3 = J S2.today) (d7 : ∀ g, g < 4 → AI2 307 0 g = J (S2.one g)) (d8 : ∀ g, g < 4 → AI2 308 0 g = J (S2.other g))
    (e1 : FI2 0 0 1 = J (S2.taped : Int)) (e2 : ∀ k, k < 340 → AI2 300 0 k = J (S2.tape k)) (e3 : FI2 0 0 2 = J S2.fault) (e4 : FI2 0 0 6 = S2.stamp) (hst : S.laidN ≠ 0 → S2.laidStamp = S2.stamp → S.laidStamp = S.stamp) : HRes S2 FI FR AI AR AN FI2 FR GR AI2 BR AN C := by
  have X : HKa L0 LA C C (6, C 6) FI FI2 FR FR GR GR AI AI2 BR BR AN AN := HKa.sc hf h0 ha
  have K := X.kp (fun k hk q => by have := hA k hk; rw [q] at this; revert this; decide)
  refine ⟨⟨Z, h.rest X hA (show 6 ≠ 315 by decide) h.wf (h.toHSt.sc h.wf K e d4 d5 d3 d7 d8) (fun c hc => ?_) (fun i j hi hj => ?_) e1 e2 e3 e4 q1 q2 e.nF e.fk e.fc e.fr e.laidN e.laidDay e.laidOp e.laidHour e.laidStamp (fun k hk => ⟨by rw [e.op], rfl⟩) (fun hn he => ⟨hst hn he, e.nC⟩)⟩, X.out hA⟩
  · rw [e.nC] at hc; rw [e.ca]; exact (h.cls c hc).kp h.wf K (h.caL.old h.wf hc)
  · rw [e.nC] at hi hj; exact h.cij i j hi hj
def scF (F : OhI) (w : Nat → Int32) : OhI := sA F 0 0 w
theorem scF_ne (F : OhI) (w : Nat → Int32) : ∀ s i, ¬ (s = 0 ∧ i = 0) → scF F w s i = F s i := fun s i q => sA_ne _ _ q
theorem scF_at (F : OhI) (w : Nat → Int32) : scF F w 0 0 = w := sA_same _ _ _ _
theorem PSame.refl : PSame S S := ⟨rfl, rfl, rfl, rfl, rfl, rfl, rfl, rfl, rfl, rfl, rfl, rfl, rfl, rfl, rfl, rfl, rfl, rfl, rfl, rfl, rfl, rfl⟩
theorem h_end (hS : PStOk S) (h : HInv S Z FI FR GR AI AR BR AN C) {a : Int} (ha : jo a) : wp (mX1_end FI (J a)) (fun r => r.1 = (oEndT S a).1 ∧ HRes (oEndT S a).2 FI FR AI AR AN r.2 FR GR AI BR AN C) := by
  have ht := hS.taped
  have b1 := ha.1; have b2 := ha.2
  unfold mX1_end oEndT
  ((repeat' (first | ((with_reducible apply wp_let); try dsimp only) | ((with_reducible apply wp_gdJ); (focus (first | ((simp (disch := omega) only [J_lit, J_add, J_sub, J_mul, J_neg, J_n, jle, jlt, jeq, jnn, jnat, Int.toNat_natCast, bJ_0, bJ_1, bft, gd_T, nar_J, nar_0, nar_1, if_true, if_false, Option.bind_some, gd_t, h.taped]); rfl) | rfl)); (focus (first | exact True.intro | (first | exact vp_J (by omega) (by omega) (by omega) | omega)))) | ((with_reducible apply wp_ifJT); (focus (first | ((simp (disch := omega) only [J_lit, J_add, J_sub, J_mul, J_neg, J_n, jle, jlt, jeq, jnn, jnat, Int.toNat_natCast, bJ_0, bJ_1, bft, gd_T, nar_J, nar_0, nar_1, if_true, if_false, Option.bind_some, gd_t, decide_eq_false_iff_not, decide_eq_true_eq, h.taped]); rfl) | rfl)); (focus (first | exact True.intro | omega))) | ((with_reducible apply wp_ifJF); (focus (first | ((simp (disch := omega) only [J_lit, J_add, J_sub, J_mul, J_neg, J_n, jle, jlt, jeq, jnn, jnat, Int.toNat_natCast, bJ_0, bJ_1, bft, gd_T, nar_J, nar_0, nar_1, if_true, if_false, Option.bind_some, gd_t, decide_eq_false_iff_not, decide_eq_true_eq, h.taped]); rfl) | rfl)); (focus (first | exact not_false | omega))) | ((with_reducible apply wp_ifJ); (focus (first | ((simp (disch := omega) only [J_lit, J_add, J_sub, J_mul, J_neg, J_n, jle, jlt, jeq, jnn, jnat, Int.toNat_natCast, bJ_0, bJ_1, bft, gd_T, nar_J, nar_0, nar_1, if_true, if_false, Option.bind_some, gd_t, decide_eq_false_iff_not, decide_eq_true_eq, h.taped]); rfl) | rfl)); all_goals intro _) | (with_reducible apply wp_some) | ((with_reducible apply wp_eli); try dsimp only) | ((with_reducible apply wp_elr); try dsimp only) | ((with_reducible apply wp_bindE); (focus ((simp (disch := omega) only [J_lit, J_add, J_sub, J_mul, J_neg, J_n, jle, jlt, jeq, jnn, jnat, Int.toNat_natCast, bJ_0, bJ_1, bft, gd_T, nar_J, nar_0, nar_1, if_true, if_false, Option.bind_some, gd_t, h.taped]); rfl)); try dsimp only) | (with_reducible apply wp_bind))); all_goals (try (simp (disch := omega) only [J_lit, J_add, J_sub, J_mul, J_neg, J_n, jle, jlt, jeq, jnn, jnat, Int.toNat_natCast, bJ_0, bJ_1, bft, gd_T, nar_J, nar_0, nar_1, if_true, if_false, Option.bind_some, gd_t, h.taped])))
  · rw [if_neg (by omega)]; exact ⟨rfl, HRes.same h⟩
  · rw [if_pos (by omega)]
    refine ⟨rfl, h.sc (L0 := [1]) (LA := []) (scF_ne FI _) (fun k hk => ?_) (fun _ _ => rfl) (by decide) (by decide) (by decide) PSame.refl ?_ ?_ ?_ h.one h.other ?_ h.tape ?_ ?_ (fun _ he => he)⟩
    · rw [scF_at, uA_ne _ _ (by simpa using hk)] <;> rfl
    · rw [scF_at, uA_ne _ _ (by decide)]; exact h.daily
    · rw [scF_at, uA_ne _ _ (by decide)]; exact h.weekly
    · rw [scF_at, uA_ne _ _ (by decide)]; exact h.today
    · rw [scF_at, uA_same]; exact congrArg J (by show a = ((a.toNat : Nat) : Int); omega)
    · rw [scF_at, uA_ne _ _ (by decide)]; exact h.fault
    · rw [scF_at, uA_ne _ _ (by decide)]; exact h.stamp
  · rw [if_neg (by omega)]; exact ⟨rfl, HRes.same h⟩
theorem h_next {r0 : Nat} (hS : PStOk S) (hr : PStR r0 S) (hr0 : r0 ≤ 1000) (h : HInv S Z FI FR GR AI AR BR AN C) {a : Int} (ha : jo a) : wp (mX1_next FI (J a)) (fun r => r.1 = (oNext S a).1 ∧ HRes (oNext S a).2 FI FR AI AR AN r.2 FR GR AI BR AN C) := by
  have ht := hS.today
  have b1 := ha.1; have b2 := ha.2
  unfold mX1_next oNext
  ((repeat' (first | ((with_reducible apply wp_let); try dsimp only) | ((with_reducible apply wp_gdJ); (focus (first | ((simp (disch := omega) only [J_lit, J_add, J_sub, J_mul, J_neg, J_n, jle, jlt, jeq, jnn, jnat, Int.toNat_natCast, bJ_0, bJ_1, bft, gd_T, nar_J, nar_0, nar_1, if_true, if_false, Option.bind_some, gd_t, h.today, h_isIn, sA_same, sA_sA]); rfl) | rfl)); (focus (first | exact True.intro | (first | exact vp_J (by omega) (by omega) (by omega) | omega)))) | ((with_reducible apply wp_ifJT); (focus (first | ((simp (disch := omega) only [J_lit, J_add, J_sub, J_mul, J_neg, J_n, jle, jlt, jeq, jnn, jnat, Int.toNat_natCast, bJ_0, bJ_1, bft, gd_T, nar_J, nar_0, nar_1, if_true, if_false, Option.bind_some, gd_t, decide_eq_false_iff_not, decide_eq_true_eq, h.today, h_isIn, sA_same, sA_sA]); rfl) | rfl)); (focus (first | exact True.intro | omega))) | ((with_reducible apply wp_ifJF); (focus (first | ((simp (disch := omega) only [J_lit, J_add, J_sub, J_mul, J_neg, J_n, jle, jlt, jeq, jnn, jnat, Int.toNat_natCast, bJ_0, bJ_1, bft, gd_T, nar_J, nar_0, nar_1, if_true, if_false, Option.bind_some, gd_t, decide_eq_false_iff_not, decide_eq_true_eq, h.today, h_isIn, sA_same, sA_sA]); rfl) | rfl)); (focus (first | exact not_false | omega))) | ((with_reducible apply wp_ifJ); (focus (first | ((simp (disch := omega) only [J_lit, J_add, J_sub, J_mul, J_neg, J_n, jle, jlt, jeq, jnn, jnat, Int.toNat_natCast, bJ_0, bJ_1, bft, gd_T, nar_J, nar_0, nar_1, if_true, if_false, Option.bind_some, gd_t, decide_eq_false_iff_not, decide_eq_true_eq, h.today, h_isIn, sA_same, sA_sA]); rfl) | rfl)); all_goals intro _) | (with_reducible apply wp_some) | ((with_reducible apply wp_eli); try dsimp only) | ((with_reducible apply wp_elr); try dsimp only) | ((with_reducible apply wp_bindE); (focus ((simp (disch := omega) only [J_lit, J_add, J_sub, J_mul, J_neg, J_n, jle, jlt, jeq, jnn, jnat, Int.toNat_natCast, bJ_0, bJ_1, bft, gd_T, nar_J, nar_0, nar_1, if_true, if_false, Option.bind_some, gd_t, h.today, h_isIn, sA_same, sA_sA]); rfl)); try dsimp only) | (with_reducible apply wp_bind))); all_goals (try (simp (disch := omega) only [J_lit, J_add, J_sub, J_mul, J_neg, J_n, jle, jlt, jeq, jnn, jnat, Int.toNat_natCast, bJ_0, bJ_1, bft, gd_T, nar_J, nar_0, nar_1, if_true, if_false, Option.bind_some, gd_t, h.today, h_isIn, sA_same, sA_sA])))
  · rw [if_neg (by omega)]; exact ⟨rfl, HRes.same h⟩
  · rw [if_pos (by omega)]
    refine ⟨?_, h.sc (L0 := [3, 6]) (LA := []) (scF_ne FI _) (fun k hk => ?_) (fun _ _ => rfl) (by decide) (by decide) (by decide) PSame.refl ?_ ?_ ?_ h.one h.other ?_ h.tape ?_ ?_ (fun _ he => absurd he (stamp_ne hr hr0))⟩
    · rw [uA_ne _ _ (by decide), uA_same]
    · simp only [List.mem_cons, List.not_mem_nil, or_false, not_or] at hk
      rw [scF_at, uA_ne _ _ hk.2, uA_ne _ _ hk.1]
    · rw [scF_at, uA_ne _ _ (by decide), uA_ne _ _ (by decide)]; exact h.daily
    · rw [scF_at, uA_ne _ _ (by decide), uA_ne _ _ (by decide)]; exact h.weekly
    · rw [scF_at, uA_ne _ _ (by decide), uA_same] <;> rfl
    · rw [scF_at, uA_ne _ _ (by decide), uA_ne _ _ (by decide)]; exact h.taped
    · rw [scF_at, uA_ne _ _ (by decide), uA_ne _ _ (by decide)]; exact h.fault
    · rw [scF_at, uA_same, uA_ne _ _ (by decide), h.stamp] <;> rfl
  · rw [if_neg (by omega)]; exact ⟨rfl, HRes.same h⟩
theorem h_chorus {r0 : Nat} (hS : PStOk S) (hr : PStR r0 S) (hr0 : r0 ≤ 1000) (h : HInv S Z FI FR GR AI AR BR AN C) {d w : Int} (hd : jo d) (hw : jo w) : wp (mX1_chorus FI (J d) (J w)) (fun r => r.1 = (oChorus S d w).1 ∧ HRes (oChorus S d w).2 FI FR AI AR AN r.2 FR GR AI BR AN C) := by
  have b1 := hd.1; have b2 := hd.2; have b3 := hw.1; have b4 := hw.2
  unfold mX1_chorus oChorus
  ((repeat' (first | ((with_reducible apply wp_let); try dsimp only) | ((with_reducible apply wp_gdJ); (focus (first | ((simp (disch := omega) only [J_lit, J_add, J_sub, J_mul, J_neg, J_n, jle, jlt, jeq, jnn, jnat, Int.toNat_natCast, bJ_0, bJ_1, bft, gd_T, nar_J, nar_0, nar_1, if_true, if_false, Option.bind_some, gd_t, h_isIn, sA_same, sA_sA]); rfl) | rfl)); (focus (first | exact True.intro | (first | exact vp_J (by omega) (by omega) (by omega) | omega)))) | ((with_reducible apply wp_ifJT); (focus (first | ((simp (disch := omega) only [J_lit, J_add, J_sub, J_mul, J_neg, J_n, jle, jlt, jeq, jnn, jnat, Int.toNat_natCast, bJ_0, bJ_1, bft, gd_T, nar_J, nar_0, nar_1, if_true, if_false, Option.bind_some, gd_t, decide_eq_false_iff_not, decide_eq_true_eq, h_isIn, sA_same, sA_sA]); rfl) | rfl)); (focus (first | exact True.intro | omega))) | ((with_reducible apply wp_ifJF); (focus (first | ((simp (disch := omega) only [J_lit, J_add, J_sub, J_mul, J_neg, J_n, jle, jlt, jeq, jnn, jnat, Int.toNat_natCast, bJ_0, bJ_1, bft, gd_T, nar_J, nar_0, nar_1, if_true, if_false, Option.bind_some, gd_t, decide_eq_false_iff_not, decide_eq_true_eq, h_isIn, sA_same, sA_sA]); rfl) | rfl)); (focus (first | exact not_false | omega))) | ((with_reducible apply wp_ifJ); (focus (first | ((simp (disch := omega) only [J_lit, J_add, J_sub, J_mul, J_neg, J_n, jle, jlt, jeq, jnn, jnat, Int.toNat_natCast, bJ_0, bJ_1, bft, gd_T, nar_J, nar_0, nar_1, if_true, if_false, Option.bind_some, gd_t, decide_eq_false_iff_not, decide_eq_true_eq, h_isIn, sA_same, sA_sA]); rfl) | rfl)); all_goals intro _) | (with_reducible apply wp_some) | ((with_reducible apply wp_eli); try dsimp only) | ((with_reducible apply wp_elr); try dsimp only) | ((with_reducible apply wp_bindE); (focus ((simp (disch := omega) only [J_lit, J_add, J_sub, J_mul, J_neg, J_n, jle, jlt, jeq, jnn, jnat, Int.toNat_natCast, bJ_0, bJ_1, bft, gd_T, nar_J, nar_0, nar_1, if_true, if_false, Option.bind_some, gd_t, h_isIn, sA_same, sA_sA]); rfl)); try dsimp only) | (with_reducible apply wp_bind))); all_goals (try (simp (disch := omega) only [J_lit, J_add, J_sub, J_mul, J_neg, J_n, jle, jlt, jeq, jnn, jnat, Int.toNat_natCast, bJ_0, bJ_1, bft, gd_T, nar_J, nar_0, nar_1, if_true, if_false, Option.bind_some, gd_t, h_isIn, sA_same, sA_sA])))
  · rw [if_neg (by omega)]; exact ⟨rfl, HRes.same h⟩
  · rw [if_neg (by omega)]; exact ⟨rfl, HRes.same h⟩
  · rw [if_pos (by omega)]
    refine ⟨rfl, h.sc (L0 := [4, 5, 6]) (LA := []) (scF_ne FI _) (fun k hk => ?_) (fun _ _ => rfl) (by decide) (by decide) (by decide) PSame.refl ?_ ?_ ?_ h.one h.other ?_ h.tape ?_ ?_ (fun _ he => absurd he (stamp_ne hr hr0))⟩
    · simp only [List.mem_cons, List.not_mem_nil, or_false, not_or] at hk
      rw [scF_at, uA_ne _ _ hk.2.2, uA_ne _ _ hk.2.1, uA_ne _ _ hk.1]
    · rw [scF_at, uA_ne _ _ (by decide), uA_ne _ _ (by decide), uA_same] <;> rfl
    · rw [scF_at, uA_ne _ _ (by decide), uA_same] <;> rfl
    · rw [scF_at, uA_ne _ _ (by decide), uA_ne _ _ (by decide), uA_ne _ _ (by decide)]; exact h.today
    · rw [scF_at, uA_ne _ _ (by decide), uA_ne _ _ (by decide), uA_ne _ _ (by decide)]; exact h.taped
    · rw [scF_at, uA_ne _ _ (by decide), uA_ne _ _ (by decide), uA_ne _ _ (by decide)]; exact h.fault
    · rw [scF_at, uA_same, uA_ne _ _ (by decide), uA_ne _ _ (by decide), h.stamp] <;> rfl
end
end
