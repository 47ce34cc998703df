noncomputable section
set_option linter.unusedVariables false
set_option linter.unusedSimpArgs false
/-! PLAIN 84: nights laid (house), 3: a night is put in -/
theorem HLf.out {C C2 : OhC} {FI FI2 : OhI} {FR FR2 : OhQ} {AI AI2 : OhI} {BR BR2 : OhQ} {AN : OhN} (x : HLf C C2 FI FI2 FR FR2 AI AI2 BR BR2) : HOut FI FI2 FR FR2 AI AI2 AN AN :=
  HOut.mk (x.fi (1, 0) (fun q => absurd q.1 (by decide)) (by decide)) (x.fr (1, 0) (fun q => absurd q.1 (by decide))) (fun s hs => by rw [x.ai s (by rcases hs with rfl | hs; decide; simp only [lySA, List.mem_cons, List.not_mem_nil, or_false]; omega)]) (fun _ _ => rfl)
section
variable {S : PSt} {Z : PZ} {w : Nat → Nat} {hour last : Int} {N : Nat} {d : Nat → Int} {na : Nat → Rf} {m t n : Nat} {C : OhC} {FI : OhI} {FR GR : OhQ} {AI : OhI} {AR BR : OhQ} {AN : OhN}
theorem h_putIn (hS : PStOk S) (hn : 10000 ≤ n) (hw : LyOk S w hour N) (q : HLt S Z w hour last N d na m t FI FR GR AI AR BR AN C) (hd : ∀ k, k < m → 0 ≤ d k ∧ d k ≤ 29) (hm : m < N) {x : Int} (hx : 0 ≤ x ∧ x ≤ 29) :
    ∃ FI2 FR2 AI2 BR2 C2, mX1_putIn n FI FR GR AI AR BR AN C (J (m : Int)) (J x) = some ((FI2, FR2, AI2, BR2, C2), (1, 7)) ∧ HLt S Z w hour last N (updD d m x) (updN na m (16, C 16)) (m + 1) t FI2 FR2 GR AI2 AR BR2 AN C2 ∧ HLf C C2 FI FI2 FR FR2 AI AI2 BR BR2 := by
  obtain ⟨ho, h24⟩ := hw.ww m hm
  have hO := hS.op _ ho
  have hN6 := hw.hN
  have hroom := hw.room
  have hh0 := hw.hh
  have hhr := hO.hours
  have hsO := hS.nO
  have sh := q.sh
  have kd4 : ohKd (Z.o (w m)).1 = 4 := (q.core.op _ ho).kd
  have hT := lt_ok hS hw (show m ≤ N by omega) hd
  have hd' : ∀ k, k < m → d k = updD d m x k := fun k hk => (updD_lt hk).symm
  have oldO : hOld C (Z.o (w m)) := q.core.opL.old q.wf ho
  have eg := h_get (AR := AR) q.core.opL ho (by omega)
  have ef := h_firstOf (n := n) (AR := AR) hS q.core hn ho
  have e3 : (if (3 : Int) = 0 then (2 : Int) else if (3 : Int) = 1 then 3 else (S.op (w m)).hours) = (S.op (w m)).hours := by simp
  have ei := h_init15 (F := sA FI 16 (C 16) (fun _ => J 0)) (R := sA FR 16 (C 16) (fun _ => none)) (t := (16, C 16)) (w := Z.o (w m)) (a := (S.nC : Int) + (m : Int)) (d := x) (x := hour) (kd := 3) (v := 3) hO kd4 (show ohKd 16 = 14 by decide) (by rw [sA_ne _ _ (new_ne oldO (by decide) (by decide))]; exact (q.core.op _ ho).hours) (by omega)
  rw [e3] at ei
  dsimp only at ei
  rw [sA_same, sA_sA, sA_same, sA_sA] at ei
  generalize hF9 : sA FI 16 (C 16) (uA (uA (uA (uA (uA (uA (fun _ => J 0) 0 (J ((S.nC : Int) + (m : Int)))) 1 (J x)) 2 (J 3)) 3 (J 3)) 4 (J (24 * x + hour))) 5 (J (24 * x + hour + (S.op (w m)).hours))) = F9 at ei
  generalize hR9 : sA FR 16 (C 16) (uA (fun _ => none) 6 (some (Z.o (w m)))) = R9 at ei
  have f9 : ∀ s i, ¬ (s = 16 ∧ i = C 16) → F9 s i = FI s i := fun s i z => by rw [← hF9]; exact sA_ne _ _ z
  have r9 : ∀ s i, ¬ (s = 16 ∧ i = C 16) → R9 s i = FR s i := fun s i z => by rw [← hR9]; exact sA_ne _ _ z
  have f9n : F9 16 (C 16) = uA (uA (uA (uA (uA (uA (fun _ => J 0) 0 (J ((S.nC : Int) + (m : Int)))) 1 (J x)) 2 (J 3)) 3 (J 3)) 4 (J (24 * x + hour))) 5 (J (24 * x + hour + (S.op (w m)).hours)) := by rw [← hF9, sA_same]
  have r9n : R9 16 (C 16) 6 = some (Z.o (w m)) := by rw [← hR9, sA_same, uA_same]
  have f9o : ∀ a : Rf, hOld C a → F9 a.1 a.2 = FI a.1 a.2 := fun a ha => f9 _ _ (new_ne ha (by decide) (by decide))
  have r9o : ∀ a : Rf, hOld C a → R9 a.1 a.2 = FR a.1 a.2 := fun a ha => r9 _ _ (new_ne ha (by decide) (by decide))
  have hC6 := uC_le C 16
  have b10 : ∀ s, s ≠ 329 → sA BR 329 0 (uA (BR 329 0) m (some (16, C 16))) s = BR s := fun s z => sA_site _ _ _ z
  have b10m : sA BR 329 0 (uA (BR 329 0) m (some (16, C 16))) 329 0 m = some (16, C 16) := by rw [sA_same, uA_same]
  generalize hB10 : sA BR 329 0 (uA (BR 329 0) m (some (16, C 16))) = B10 at b10 b10m
  -- calls in the new heap
  have oldC : ∀ c, c < S.nC + m → hOld C ((ZN S Z na).c c) := fun c hc => by
    by_cases z : c < S.nC
    · rw [ZN_lo z]; exact q.core.caL.old q.wf z
    · obtain ⟨k, rfl⟩ : ∃ k, c = S.nC + k := ⟨c - S.nC, by omega⟩
      rw [ZN_hi]; exact q.made k (by omega)
  have zm : (ZN S Z (updN na m (16, C 16))).c (S.nC + m) = (16, C 16) := by rw [ZN_hi]; unfold updN; rw [if_pos rfl]
  have cm : ltCa S w (updD d m x) hour (S.nC + m) = nightCa S x hour (w m) := by
    unfold ltCa
    rw [if_neg (by omega), Nat.add_sub_cancel_left, updD_at]
  have clO : ∀ c, c < S.nC + m → HCl (ltCa S w (updD d m x) hour c) c ((ZN S Z (updN na m (16, C 16))).c c) (ZN S Z (updN na m (16, C 16))) F9 R9 := fun c hc => by
    have y := q.tb.ca c hc
    rw [ZN_up hc, ← ltCa_congr hd' hc]
    have e := f9o _ (oldC c hc)
    have e2 := r9o _ (oldC c hc)
    exact HCl.mk y.kd (by rw [e]; exact y.num) (by rw [e]; exact y.day) (by rw [e]; exact y.kind) (by rw [e]; exact y.halves) (by rw [e]; exact y.beg) (by rw [e]; exact y.fin) (by rw [e2]; exact y.op)
  have clN : HCl (nightCa S x hour (w m)) (S.nC + m) (16, C 16) (ZN S Z (updN na m (16, C 16))) F9 R9 := by
    refine HCl.mk (show ohKd 16 = 14 by decide) ?_ ?_ ?_ ?_ ?_ ?_ r9n
    · show F9 16 (C 16) 0 = _; rw [f9n]; exact congrArg J (by omega)
    · show F9 16 (C 16) 1 = _; rw [f9n]; rfl
    · show F9 16 (C 16) 2 = _; rw [f9n]; rfl
    · show F9 16 (C 16) 3 = _; rw [f9n]; rfl
    · show F9 16 (C 16) 4 = _; rw [f9n]; rfl
    · show F9 16 (C 16) 5 = _; rw [f9n]; rfl
  have hcl : ∀ c, c ≤ S.nC + m → HCl (ltCa S w (updD d m x) hour c) c ((ZN S Z (updN na m (16, C 16))).c c) (ZN S Z (updN na m (16, C 16))) F9 R9 := fun c hc => by
    by_cases z : c = S.nC + m
    · rw [z, zm, cm]; exact clN
    · exact clO c (by omega)
  have hb : ∀ c, c ≤ S.nC + m → -1 ≤ (ltCa S w (updD d m x) hour c).beg ∧ (ltCa S w (updD d m x) hour c).beg ≤ 1000 := fun c hc => by
    by_cases z : c = S.nC + m
    · rw [z, cm]; show -1 ≤ 24 * x + hour ∧ 24 * x + hour ≤ 1000; omega
    · have y := hT.b (c := c) (show c < S.nC + m by omega)
      rw [← ltCa_congr hd' (show c < S.nC + m by omega)]
      have y1 : (lt S w d hour m).ca c = ltCa S w d hour c := rfl
      rw [y1] at y
      omega
  have h17 : F9 0 0 17 = J ((S.nC + m : Nat) : Int) := by rw [f9 0 0 (by omega)]; exact q.tb.ordered
  have hord : ∀ k, k < S.nC + m → B10 316 0 k = some ((ZN S Z (updN na m (16, C 16))).c (ordN (fun c => (ltCa S w (updD d m x) hour c).beg) (S.nC + m) k)) := fun k hk => by
    have ok : ordN (fun c => (ltCa S w d hour c).beg) (S.nC + m) k < S.nC + m := hT.ord k hk
    rw [b10 316 (by decide), ← lt_ord hd', ZN_up ok]
    exact q.tb.order k hk
  obtain ⟨f, A, een, of, xA, rows⟩ := h_enter (n := n) (AR := AR) (AI := AI) (AN := AN) (BR := B10) (Z := ZN S Z (updN na m (16, C 16))) hn (m := S.nC + m) (by omega) hcl hb h17 hord
  rw [zm] at een
  have xf : HLf C (uA C 16 (C 16 + 1)) FI (f17 F9 (J ((S.nC + m + 1 : Nat) : Int))) FR R9 AI A BR (sA B10 316 0 f) := by
    refine HLf.mk (fun a ha na => ?_) (fun k hk => ?_) r9o (eqx_mono xA (by decide)) (fun s h1 h2 => by rw [sA_site _ _ _ h1]; exact b10 s h2) hC6
    · have : f17 F9 (J ((S.nC + m + 1 : Nat) : Int)) a.1 a.2 = F9 a.1 a.2 := by
        unfold f17
        exact sA_ne _ _ (fun z => na (Prod.ext z.1 z.2))
      rw [this]; exact f9o a ha
    · rw [f17_ne _ _ (by rintro rfl; exact hk (by decide)), f9 0 0 (by omega)]
  have core2 := xf.core q.core q.wf
  have b329 : sA B10 316 0 f 329 0 m = some (16, C 16) := by rw [sA_site _ _ _ (by decide)]; exact b10m
  have f17o : ∀ s i, s ≠ 0 → f17 F9 (J ((S.nC + m + 1 : Nat) : Int)) s i = F9 s i := fun s i z => by unfold f17; exact sA_site _ _ _ z ▸ rfl
  have er : mX15_roles (f17 F9 (J ((S.nC + m + 1 : Nat) : Int))) R9 (16, C 16) = some (J ((S.op (w m)).nr : Int)) := by
    obtain ⟨y, g, y1, y2, y3⟩ := (core2.op _ ho).roles
    have e4 : oD 17 (R9 (Z.o (w m)).1 (Z.o (w m)).2 6) = some y := by rw [y1]; exact oD_of y2.1
    apply wp_eq
    unfold mX15_roles
    ((repeat' (first | ((with_reducible apply wp_let); try dsimp only) | ((with_reducible apply wp_gdJ); (focus (first | ((simp (disch := omega) only [J_lit, J_add, J_sub, J_mul, J_neg, J_n, jle, jlt, jeq, jnn, jnat, Int.toNat_natCast, bJ_0, bJ_1, bft, gd_T, nar_J, nar_0, nar_1, if_true, if_false, Option.bind_some, gd_t, r9n, oD_of kd4, e4, h_size y2]); rfl) | rfl)); (focus (first | exact True.intro | (first | exact vp_J (by omega) (by omega) (by omega) | omega)))) | ((with_reducible apply wp_ifJT); (focus (first | ((simp (disch := omega) only [J_lit, J_add, J_sub, J_mul, J_neg, J_n, jle, jlt, jeq, jnn, jnat, Int.toNat_natCast, bJ_0, bJ_1, bft, gd_T, nar_J, nar_0, nar_1, if_true, if_false, Option.bind_some, gd_t, decide_eq_false_iff_not, decide_eq_true_eq, r9n, oD_of kd4, e4, h_size y2]); rfl) | rfl)); (focus (first | exact True.intro | omega))) | ((with_reducible apply wp_ifJF); (focus (first | ((simp (disch := omega) only [J_lit, J_add, J_sub, J_mul, J_neg, J_n, jle, jlt, jeq, jnn, jnat, Int.toNat_natCast, bJ_0, bJ_1, bft, gd_T, nar_J, nar_0, nar_1, if_true, if_false, Option.bind_some, gd_t, decide_eq_false_iff_not, decide_eq_true_eq, r9n, oD_of kd4, e4, h_size y2]); rfl) | rfl)); (focus (first | exact not_false | omega))) | ((with_reducible apply wp_ifJ); (focus (first | ((simp (disch := omega) only [J_lit, J_add, J_sub, J_mul, J_neg, J_n, jle, jlt, jeq, jnn, jnat, Int.toNat_natCast, bJ_0, bJ_1, bft, gd_T, nar_J, nar_0, nar_1, if_true, if_false, Option.bind_some, gd_t, decide_eq_false_iff_not, decide_eq_true_eq, r9n, oD_of kd4, e4, h_size y2]); rfl) | rfl)); all_goals intro _) | (with_reducible apply wp_some) | ((with_reducible apply wp_eli); try dsimp only) | ((with_reducible apply wp_elr); try dsimp only) | ((with_reducible apply wp_bindE); (focus ((simp (disch := omega) only [J_lit, J_add, J_sub, J_mul, J_neg, J_n, jle, jlt, jeq, jnn, jnat, Int.toNat_natCast, bJ_0, bJ_1, bft, gd_T, nar_J, nar_0, nar_1, if_true, if_false, Option.bind_some, gd_t, r9n, oD_of kd4, e4, h_size y2]); rfl)); try dsimp only) | (with_reducible apply wp_bind))); all_goals (try (simp (disch := omega) only [J_lit, J_add, J_sub, J_mul, J_neg, J_n, jle, jlt, jeq, jnn, jnat, Int.toNat_natCast, bJ_0, bJ_1, bft, gd_T, nar_J, nar_0, nar_1, if_true, if_false, Option.bind_some, gd_t, r9n, oD_of kd4, e4, h_size y2])))
  have sh9 : ohShH R9 AR AN := xf.sh sh
  have hL := h_likeL (n := n) (FI := f17 F9 (J ((S.nC + m + 1 : Nat) : Int))) (FR := R9) (GR := GR) (AI := A) (AR := AR) (BR := sA B10 316 0 f) (AN := AN) (C := uA C 16 (C 16 + 1)) (a := (16, C 16)) (Z := Z) (S := S) hS hn sh9 ho (show m < 6 by omega) (show ohKd 16 = 14 by decide) b329 er (by omega) (by show f17 F9 _ 16 (C 16) 0 = _; rw [f17o 16 _ (by decide), f9n]; exact congrArg J (by omega)) (cA := (tabN S S.today S.nP).1) (fun c hc => ⟨(core2.cls c hc).kd, (core2.cls c hc).num⟩) (fun c r hc hr => by
      rw [(rows 419 (by decide)).2 c (by omega)]
      have y := q.tb.cast c r (show c < S.nC + m by omega) hr
      rw [y]
      show J (ltCast S w c r) = _
      unfold ltCast; rw [if_pos hc]) (fun r hr => (rows 419 (by decide)).1 r hr) (x5 := 0)
  obtain ⟨A2, c1, d1, e67, cz, dz, x2, l1, l2⟩ := wk_get hL
  have hc0 : c1 = 0 := by omega
  have hd0 : d1 = 0 := by omega
  subst hc0; subst hd0
  have sh6 : ohShH (sA FR 16 (C 16) (fun _ => none)) AR AN := by
    obtain ⟨h1, h2, h3, h4, h5, h6⟩ := sh
    exact ⟨fun k hk => by rw [sA_ne _ _ (by omega)]; exact h1 k hk, h2, h3, by rw [sA_ne _ _ (by omega)]; exact h4, h5, h6⟩
  have l6 : hLs (sA FI 16 (C 16) (fun _ => J 0)) GR BR AN (311, 0) S.nC Z.c := q.core.caL.fi (sA_ne _ _ (by show ¬ (311 = 16 ∧ _); omega))
  have f33 : sA FI 16 (C 16) (fun _ => J 0) 0 0 33 = J hour := by rw [sA_ne _ _ (by omega)]; exact q.f33
  refine ⟨f17 F9 (J ((S.nC + m + 1 : Nat) : Int)), R9, A2, sA B10 316 0 f, uA C 16 (C 16 + 1), ?_, ?_, ?_⟩
  · unfold mX1_putIn oLet oCost
    have e330 := q.wi m hm
    have v6 : vp_in (J (m : Int)) 6 := vp_J (by omega) (by omega) (by omega)
    rw [gd_t sh, gd_t v6, jnn (by omega), e330, eg, Option.bind_some, oD_of kd4, Option.bind_some, ef, Option.bind_some]
    have j0 : (fun _ : Nat => (0 : Int32)) = fun _ => J 0 := by funext _; exact J_0
    dsimp only
    rw [gd_t sh6, j0, h_size l6, Option.bind_some, J_add, f33, J_lit 3, ei, Option.bind_some]
    dsimp only
    rw [gd_t sh9, gd_t v6, gd_t v6, hB10, b10m, een, Option.bind_some]
    dsimp only
    rw [J_0, e67]
    rfl
  · have xf2 : HLf C (uA C 16 (C 16 + 1)) FI (f17 F9 (J ((S.nC + m + 1 : Nat) : Int))) FR R9 AI A2 BR (sA B10 316 0 f) := xf.trans (HLf.mk (fun _ _ _ => rfl) (fun _ _ => rfl) (fun _ _ => rfl) (eqx_mono x2 (by decide)) (fun _ _ _ => rfl) (fun _ => Nat.le_refl _))
    have core3 := xf2.core q.core q.wf
    have of' : ∀ k, k < S.nC + (m + 1) → f k = some ((ZN S Z (updN na m (16, C 16))).c (ordN (fun c => (ltCa S w (updD d m x) hour c).beg) (S.nC + (m + 1)) k)) := of
    have tb2 : HTb (lt S w (updD d m x) hour (m + 1)) (ZN S Z (updN na m (16, C 16))) (f17 F9 (J ((S.nC + m + 1 : Nat) : Int))) R9 GR A2 (sA B10 316 0 f) AN := by
      refine HTb.mk (core3.toHSt.zc (fun c hc => if_pos hc)) (fun c hc => (hcl c (by have : c < S.nC + (m + 1) := hc; omega)).f17_ _) (fun i j hi hj e => ?_) (f17_at _ _) ?_ (fun k hk => ?_) (fun c r hc hr => ?_) (fun c r hc hr => ?_) (fun c r hc hr => ?_)
      · have hi : i < S.nC + (m + 1) := hi
        have hj : j < S.nC + (m + 1) := hj
        have nn : ∀ c, c < S.nC + m → (ZN S Z na).c c ≠ (16, C 16) := fun c hc z => tN_new C (s := 16) (by omega) (by omega) (z ▸ oldC c hc)
        by_cases z1 : i = S.nC + m <;> by_cases z2 : j = S.nC + m
        · omega
        · rw [z1, zm, ZN_up (by omega)] at e; exact absurd e.symm (nn j (by omega))
        · rw [z2, zm, ZN_up (by omega)] at e; exact absurd e (nn i (by omega))
        · rw [ZN_up (by omega), ZN_up (by omega)] at e; exact q.tb.cinj i j (show i < S.nC + m by omega) (show j < S.nC + m by omega) e
      · rw [f17_ne _ _ (by decide), f9 0 0 (by omega)]; exact q.tb.asOf
      · rw [sA_same]; exact of' k hk
      · have hc : c < S.nC + (m + 1) := hc
        show A2 419 c r = J (ltCast S w c r)
        by_cases z : c = S.nC + m
        · subst z
          have e5 : ltCast S w (S.nC + m) r = S.like (w m) r := by
            unfold ltCast
            rw [if_neg (show ¬ S.nC + m < S.nC by omega), Nat.add_sub_cancel_left]
          rw [l2 r hr, e5]
          unfold PSt.like
          rfl
        · rw [l1 c z, (rows 419 (by decide)).2 c z]; exact q.tb.cast c r (show c < S.nC + m by omega) hr
      · have hc : c < S.nC + (m + 1) := hc
        show A2 420 c r = J (ltAh S c r)
        rw [x2 420 (by decide)]
        by_cases z : c = S.nC + m
        · subst z
          rw [(rows 420 (by decide)).1 r hr]
          unfold ltAh
          rw [if_neg (by omega)]
        · rw [(rows 420 (by decide)).2 c z]; exact q.tb.ahead c r (show c < S.nC + m by omega) hr
      · have hc : c < S.nC + (m + 1) := hc
        show A2 421 c r = J (ltCv S c r)
        rw [x2 421 (by decide)]
        by_cases z : c = S.nC + m
        · subst z
          rw [(rows 421 (by decide)).1 r hr]
          unfold ltCv
          rw [if_neg (by omega)]
        · rw [(rows 421 (by decide)).2 c z]; exact q.tb.cover c r (show c < S.nC + m by omega) hr
    have fs : ∀ k, k ≠ 17 → f17 F9 (J ((S.nC + m + 1 : Nat) : Int)) 0 0 k = FI 0 0 k := fun k hk => by rw [f17_ne _ _ hk, f9 0 0 (by omega)]
    have ax : ∀ s, s ∉ [419, 420, 421] → A2 s = AI s := fun s hs => by rw [x2 s (by intro z; apply hs; simp only [List.mem_cons, List.not_mem_nil, or_false] at z ⊢; omega), xA s hs]
    obtain ⟨p324, hp324⟩ := q.q324
    refine HLt.mk core3 tb2 ?_ sh9 q.ln (xf2.wg q.wg) ⟨p324, fun i hi => by rw [ax 324 (by decide)]; exact hp324 i hi⟩ ?_ ?_ ?_ ?_ ?_ ?_ ?_ ?_
    · refine HWf.mk (fun s i k r e => ?_) (fun s i k r e => hOld_mono (q.wf.gr s i k r e) hC6) (fun s i k r n e => ?_) q.wf.own (Nat.lt_of_lt_of_le q.wf.c40 (hC6 40)) (Nat.lt_of_lt_of_le q.wf.c58 (hC6 58)) q.wf.n40
      · by_cases z : s = 16 ∧ i = C 16
        · rw [z.1, z.2, ← hR9, sA_same] at e
          by_cases z6 : k = 6
          · subst z6; rw [uA_same] at e; cases e; exact hOld_mono oldO hC6
          · rw [uA_ne _ _ z6] at e; cases e
        · rw [r9 s i z] at e; exact hOld_mono (q.wf.fr s i k r e) hC6
      · rw [sA_site _ _ _ n, ← hB10] at e
        by_cases z : s = 329 ∧ i = 0
        · rw [z.1, z.2, sA_same] at e
          by_cases zk : k = m
          · subst zk; rw [uA_same] at e; cases e; exact uC_new C 16
          · rw [uA_ne _ _ zk] at e; exact hOld_mono (q.wf.br _ _ _ _ (by decide) e) hC6
        · rw [sA_ne _ _ z] at e; exact hOld_mono (q.wf.br _ _ _ _ n e) hC6
    · rw [fs 31 (by decide)]; exact q.f31
    · rw [fs 32 (by decide)]; exact q.f32
    · rw [fs 33 (by decide)]; exact q.f33
    · rw [fs 34 (by decide)]; exact q.f34
    · intro k hk; rw [ax 330 (by decide)]; exact q.wi k hk
    · intro c r j h1 h2 h3; rw [ax 428 (by decide)]; exact q.kept c r j h1 h2 h3
    · intro k hk
      rw [sA_site _ _ _ (by decide), ← hB10, sA_same]
      by_cases z : k = m
      · subst z; rw [uA_same]; unfold updN; rw [if_pos rfl]
      · rw [uA_ne _ _ z]; unfold updN; rw [if_neg z]; exact q.tried k (by omega)
    · intro k hk
      unfold updN
      by_cases z : k = m
      · rw [if_pos z]; exact uC_new C 16
      · rw [if_neg z]; exact hOld_mono (q.made k (by omega)) hC6
  · exact xf.trans (HLf.mk (fun _ _ _ => rfl) (fun _ _ => rfl) (fun _ _ => rfl) (eqx_mono x2 (by decide)) (fun _ _ _ => rfl) (fun _ => Nat.le_refl _))
end
end
