noncomputable section
set_option linter.unusedVariables false
set_option linter.unusedSimpArgs false
/-! PLAIN 65: what making objects leaves alone -/
def HKp (C : OhC) (t : Rf) (FI FI2 : OhI) (FR FR2 GR GR2 : OhQ) (AI AI2 : OhI) (BR BR2 : OhQ) (AN AN2 : OhN) : Prop :=
  (∀ a : Rf, hOld C a → 1 < ohKd a.1 → a ≠ t → FI2 a.1 a.2 = FI a.1 a.2) ∧
  (∀ a : Rf, hOld C a → FR2 a.1 a.2 = FR a.1 a.2) ∧
  (∀ a : Rf, hOld C a → 1 < ohKd a.1 → a ≠ t → GR2 a.1 a.2 = GR a.1 a.2) ∧
  (∀ a : Rf, hOld C a → a.1 = 5 → AI2 a.1 a.2 = AI a.1 a.2) ∧
  (∀ a : Rf, hOld C a → ohKd a.1 ≠ 105 → GR t.1 t.2 1 ≠ some a → BR2 a.1 a.2 = BR a.1 a.2) ∧
  (∀ a : Rf, hOld C a → AN2 a.1 a.2 = AN a.1 a.2) ∧
  (ohKd t.1 = 17) ∧
  (∀ x : Rf, hOld C x → x.1 = 6 ∨ x.1 = 11 ∨ x.1 = 12 → x ≠ t)
theorem HKp.mk {C : OhC} {t : Rf} {FI FI2 : OhI} {FR FR2 GR GR2 : OhQ} {AI AI2 : OhI} {BR BR2 : OhQ} {AN AN2 : OhN}
    (fi : ∀ a : Rf, hOld C a → 1 < ohKd a.1 → a ≠ t → FI2 a.1 a.2 = FI a.1 a.2)
    (fr : ∀ a : Rf, hOld C a → FR2 a.1 a.2 = FR a.1 a.2)
    (gr : ∀ a : Rf, hOld C a → 1 < ohKd a.1 → a ≠ t → GR2 a.1 a.2 = GR a.1 a.2)
    (ai : ∀ a : Rf, hOld C a → a.1 = 5 → AI2 a.1 a.2 = AI a.1 a.2)
    (br : ∀ a : Rf, hOld C a → ohKd a.1 ≠ 105 → GR t.1 t.2 1 ≠ some a → BR2 a.1 a.2 = BR a.1 a.2)
    (an : ∀ a : Rf, hOld C a → AN2 a.1 a.2 = AN a.1 a.2)
    (tk : ohKd t.1 = 17)
    (tt : ∀ x : Rf, hOld C x → x.1 = 6 ∨ x.1 = 11 ∨ x.1 = 12 → x ≠ t) :
    HKp C t FI FI2 FR FR2 GR GR2 AI AI2 BR BR2 AN AN2 := ⟨fi, fr, gr, ai, br, an, tk, tt⟩
theorem HKp.fi {C : OhC} {t : Rf} {FI FI2 : OhI} {FR FR2 GR GR2 : OhQ} {AI AI2 : OhI} {BR BR2 : OhQ} {AN AN2 : OhN} (h : HKp C t FI FI2 FR FR2 GR GR2 AI AI2 BR BR2 AN AN2) : ∀ a : Rf, hOld C a → 1 < ohKd a.1 → a ≠ t → FI2 a.1 a.2 = FI a.1 a.2 := h.1
theorem HKp.fr {C : OhC} {t : Rf} {FI FI2 : OhI} {FR FR2 GR GR2 : OhQ} {AI AI2 : OhI} {BR BR2 : OhQ} {AN AN2 : OhN} (h : HKp C t FI FI2 FR FR2 GR GR2 AI AI2 BR BR2 AN AN2) : ∀ a : Rf, hOld C a → FR2 a.1 a.2 = FR a.1 a.2 := h.2.1
theorem HKp.gr {C : OhC} {t : Rf} {FI FI2 : OhI} {FR FR2 GR GR2 : OhQ} {AI AI2 : OhI} {BR BR2 : OhQ} {AN AN2 : OhN} (h : HKp C t FI FI2 FR FR2 GR GR2 AI AI2 BR BR2 AN AN2) : ∀ a : Rf, hOld C a → 1 < ohKd a.1 → a ≠ t → GR2 a.1 a.2 = GR a.1 a.2 := h.2.2.1
theorem HKp.ai {C : OhC} {t : Rf} {FI FI2 : OhI} {FR FR2 GR GR2 : OhQ} {AI AI2 : OhI} {BR BR2 : OhQ} {AN AN2 : OhN} (h : HKp C t FI FI2 FR FR2 GR GR2 AI AI2 BR BR2 AN AN2) : ∀ a : Rf, hOld C a → a.1 = 5 → AI2 a.1 a.2 = AI a.1 a.2 := h.2.2.2.1
theorem HKp.br {C : OhC} {t : Rf} {FI FI2 : OhI} {FR FR2 GR GR2 : OhQ} {AI AI2 : OhI} {BR BR2 : OhQ} {AN AN2 : OhN} (h : HKp C t FI FI2 FR FR2 GR GR2 AI AI2 BR BR2 AN AN2) : ∀ a : Rf, hOld C a → ohKd a.1 ≠ 105 → GR t.1 t.2 1 ≠ some a → BR2 a.1 a.2 = BR a.1 a.2 := h.2.2.2.2.1
theorem HKp.an {C : OhC} {t : Rf} {FI FI2 : OhI} {FR FR2 GR GR2 : OhQ} {AI AI2 : OhI} {BR BR2 : OhQ} {AN AN2 : OhN} (h : HKp C t FI FI2 FR FR2 GR GR2 AI AI2 BR BR2 AN AN2) : ∀ a : Rf, hOld C a → AN2 a.1 a.2 = AN a.1 a.2 := h.2.2.2.2.2.1
theorem HKp.tk {C : OhC} {t : Rf} {FI FI2 : OhI} {FR FR2 GR GR2 : OhQ} {AI AI2 : OhI} {BR BR2 : OhQ} {AN AN2 : OhN} (h : HKp C t FI FI2 FR FR2 GR GR2 AI AI2 BR BR2 AN AN2) : ohKd t.1 = 17 := h.2.2.2.2.2.2.1
theorem HKp.tt {C : OhC} {t : Rf} {FI FI2 : OhI} {FR FR2 GR GR2 : OhQ} {AI AI2 : OhI} {BR BR2 : OhQ} {AN AN2 : OhN} (h : HKp C t FI FI2 FR FR2 GR GR2 AI AI2 BR BR2 AN AN2) : ∀ x : Rf, hOld C x → x.1 = 6 ∨ x.1 = 11 ∨ x.1 = 12 → x ≠ t := h.2.2.2.2.2.2.2
section
variable {C : OhC} {t : Rf} {FI FI2 : OhI} {FR FR2 GR GR2 : OhQ} {AI AI2 : OhI} {BR BR2 : OhQ} {AN AN2 : OhN} {S : PSt} {Z : PZ}
theorem kne {a b : Rf} (h : ohKd a.1 ≠ ohKd b.1) : a ≠ b := fun q => h (by rw [q])
theorem hLs.kp {t' : Rf} {n : Nat} {f : Nat → Rf} (h : hLs FI GR BR AN t' n f) (w : HWf C FR GR BR AN) (x : HKp C t FI FI2 FR FR2 GR GR2 AI AI2 BR BR2 AN AN2) (ho : hOld C t') (hne : t' ≠ t) : hLs FI2 GR2 BR2 AN2 t' n f := by
  obtain ⟨h0, h1, a, h2, h3, h6, h4, h5⟩ := h
  have hoa := w.gr _ _ _ _ h2
  have ek := x.fi t' ho (by rw [h0]; decide) hne
  have eg := x.gr t' ho (by rw [h0]; decide) hne
  refine ⟨h0, by rw [ek]; exact h1, a, by rw [eg]; exact h2, h3, h6, by rw [x.an a hoa]; exact h4, fun k hk => ?_⟩
  have hk6 : ohKd a.1 = 106 := by rcases h3 with q | q; omega; exact q
  rw [x.br a hoa (by rw [hk6]; decide) (fun q => hne ?_)]
  · exact h5 k hk
  · obtain ⟨q1, q2⟩ := w.own t'.1 t'.2 t.1 t.2 a h0 x.tk h2 q (by rintro q; rw [q] at hk6; revert hk6; decide)
    exact Prod.ext q1 q2
theorem hLs.old {t' : Rf} {n k : Nat} {f : Nat → Rf} (h : hLs FI GR BR AN t' n f) (w : HWf C FR GR BR AN) (hk : k < n) : hOld C (f k) := by
  obtain ⟨h0, h1, a, h2, h3, h6, h4, h5⟩ := h
  exact w.br _ _ _ _ (fun z => by rcases h3 with q | q
                                  · omega
                                  · rw [z] at q; revert q; decide) (h5 k hk)
theorem HKp.of (x : HKp C t FI FI2 FR FR2 GR GR2 AI AI2 BR BR2 AN AN2) {a : Rf} {c : Nat} (hk : ohKd a.1 = c) (h0 : 1 < c) (h17 : c ≠ 17) (ho : hOld C a) : FI2 a.1 a.2 = FI a.1 a.2 ∧ FR2 a.1 a.2 = FR a.1 a.2 ∧ GR2 a.1 a.2 = GR a.1 a.2 :=
  ⟨x.fi a ho (by omega) (kne (by rw [x.tk]; omega)), x.fr a ho, x.gr a ho (by omega) (kne (by rw [x.tk]; omega))⟩
theorem hCd.kp (w : HWf C FR GR BR AN) (x : HKp C t FI FI2 FR FR2 GR GR2 AI AI2 BR BR2 AN AN2) : ∀ {q : PCd} {r : Rf}, hOld C r → hCd FI FR q r → hCd FI2 FR2 q r
  | .leaf (.inl a), r, ho, h => by
    obtain ⟨e1, e2, e3⟩ := x.of h.1 (by omega) (by omega) ho
    refine ⟨h.1, ?_⟩
    rw [e1]; exact h.2
  | .leaf (.inr (a, g, m)), r, ho, h => by
    obtain ⟨e1, e2, e3⟩ := x.of h.1 (by omega) (by omega) ho
    refine ⟨h.1, ?_⟩
    rw [e1]; exact h.2
  | .branch 0 q _, r, ho, h => by
    obtain ⟨e1, e2, e3⟩ := x.of h.1 (by omega) (by omega) ho
    obtain ⟨h0, h1, y, h2, h3⟩ := h
    exact ⟨h0, by rw [e1]; exact h1, y, by rw [e2]; exact h2, hCd.kp w x (w.fr _ _ _ _ h2) h3⟩
  | .branch 1 p q, r, ho, h => by
    obtain ⟨e1, e2, e3⟩ := x.of h.1 (by omega) (by omega) ho
    obtain ⟨h0, h1, ⟨y, h2, h3⟩, z, h4, h5⟩ := h
    exact ⟨h0, by rw [e1]; exact h1, ⟨y, by rw [e2]; exact h2, hCd.kp w x (w.fr _ _ _ _ h2) h3⟩, z, by rw [e2]; exact h4, hCd.kp w x (w.fr _ _ _ _ h4) h5⟩
  | .branch (_ + 2) p q, r, ho, h => by
    obtain ⟨e1, e2, e3⟩ := x.of h.1 (by omega) (by omega) ho
    obtain ⟨h0, h1, ⟨y, h2, h3⟩, z, h4, h5⟩ := h
    exact ⟨h0, by rw [e1]; exact h1, ⟨y, by rw [e2]; exact h2, hCd.kp w x (w.fr _ _ _ _ h2) h3⟩, z, by rw [e2]; exact h4, hCd.kp w x (w.fr _ _ _ _ h4) h5⟩
theorem HRo.kp {r : PRo} {a : Rf} (h : HRo r a FI) (w : HWf C FR GR BR AN) (x : HKp C t FI FI2 FR FR2 GR GR2 AI AI2 BR BR2 AN AN2) (ho : hOld C a) : HRo r a FI2 := by
  obtain ⟨e, _, _⟩ := x.of h.kd (by omega) (by omega) ho
  exact ⟨h.kd, by rw [e]; exact h.voice, by rw [e]; exact h.strain, by rw [e]; exact h.tongue, by rw [e]; exact h.size⟩
theorem HOp.kp {o : POp} {k : Nat} {a : Rf} (h : HOp o k a FI FR GR AI BR AN) (w : HWf C FR GR BR AN) (x : HKp C t FI FI2 FR FR2 GR GR2 AI AI2 BR BR2 AN AN2) (ho : hOld C a) : HOp o k a FI2 FR2 GR2 AI2 BR2 AN2 := by
  obtain ⟨e, e2, _⟩ := x.of h.kd (by omega) (by omega) ho
  obtain ⟨s, s1, s2, s3, s4, s5⟩ := h.seats
  obtain ⟨y, f, r1, r2, r3⟩ := h.roles
  have os := w.fr _ _ _ _ s1
  have oy := w.fr _ _ _ _ r1
  refine ⟨h.kd, by rw [e]; exact h.num, by rw [e]; exact h.hours, by rw [e]; exact h.set, by rw [e]; exact h.need, by rw [e]; exact h.chorus, ⟨s, by rw [e2]; exact s1, s2, s3, by rw [x.an s os]; exact s4, fun g hg => by rw [x.ai s os s3]; exact s5 g hg⟩, ⟨y, f, by rw [e2]; exact r1, r2.kp w x oy (x.tt y oy (.inl (h.rsite y r1))), fun r hr => (r3 r hr).kp w x (r2.old w hr)⟩, by rw [e2]; exact h.rsite⟩
theorem HCt.kp {c : PCt} {a : Rf} (h : HCt c a FI FR GR BR AN) (w : HWf C FR GR BR AN) (x : HKp C t FI FI2 FR FR2 GR GR2 AI AI2 BR BR2 AN AN2) (ho : hOld C a) : HCt c a FI2 FR2 GR2 BR2 AN2 := by
  obtain ⟨e, e2, _⟩ := x.of h.kd (by omega) (by omega) ho
  obtain ⟨y, f, l1, l2, l3⟩ := h.leaves
  obtain ⟨z, g, f1, f2, f3⟩ := h.fees
  have oy := w.fr _ _ _ _ l1
  have oz := w.fr _ _ _ _ f1
  refine ⟨h.kd, by rw [e]; exact h.rest, by rw [e]; exact h.day, by rw [e]; exact h.week, by rw [e]; exact h.voice, ⟨y, f, by rw [e2]; exact l1, l2.kp w x oy (x.tt y oy (.inr (.inl (h.lsite y l1)))), fun i hi => ?_⟩, ⟨z, g, by rw [e2]; exact f1, f2.kp w x oz (x.tt z oz (.inr (.inr (h.fsite z f1)))), fun i hi => ?_⟩, by rw [e2]; exact h.lsite, by rw [e2]; exact h.fsite⟩
  · obtain ⟨q0, q1, q2⟩ := l3 i hi
    obtain ⟨e3, _, _⟩ := x.of q0 (by omega) (by omega) (l2.old w hi)
    rw [e3]; exact ⟨q0, q1, q2⟩
  · obtain ⟨q0, q1, q2⟩ := f3 i hi
    obtain ⟨e3, e4, _⟩ := x.of q0 (by omega) (by omega) (f2.old w hi)
    refine ⟨q0, by rw [e3]; exact q1, ?_⟩
    cases hc : c.cd i with
    | none => rw [hc] at q2; rw [e4]; exact q2
    | some q =>
      rw [hc] at q2
      obtain ⟨v, w1, w2⟩ := q2
      exact ⟨v, by rw [e4]; exact w1, hCd.kp w x (w.fr _ _ _ _ w1) w2⟩
theorem HSg.kp {s : PSg} {c : PCt} {k : Nat} {a : Rf} (h : HSg s c k a FI FR GR BR AN) (w : HWf C FR GR BR AN) (x : HKp C t FI FI2 FR FR2 GR GR2 AI AI2 BR BR2 AN AN2) (ho : hOld C a) : HSg s c k a FI2 FR2 GR2 BR2 AN2 := by
  obtain ⟨e, e2, e3⟩ := x.of h.kd (by omega) (by omega) ho
  obtain ⟨y, h1, h2⟩ := h.ct
  exact ⟨h.kd, by rw [e]; exact h.num, by rw [e]; exact h.voices, by rw [e]; exact h.tongues, by rw [e]; exact h.size, y, by rw [e3]; exact h1, h2.kp w x (w.gr _ _ _ _ h1)⟩
theorem HCl.kp {c : PCa} {k : Nat} {a : Rf} (h : HCl c k a Z FI FR) (w : HWf C FR GR BR AN) (x : HKp C t FI FI2 FR FR2 GR GR2 AI AI2 BR BR2 AN AN2) (ho : hOld C a) : HCl c k a Z FI2 FR2 := by
  obtain ⟨e, e2, _⟩ := x.of h.kd (by omega) (by omega) ho
  exact ⟨h.kd, by rw [e]; exact h.num, by rw [e]; exact h.day, by rw [e]; exact h.kind, by rw [e]; exact h.halves, by rw [e]; exact h.beg, by rw [e]; exact h.fin, by rw [e2]; exact h.op⟩
theorem old_base {s i : Nat} (h : 37 ≤ s) : hOld C (s, i) := fun q => by
  have h1 : s ≤ 36 := q.2
  omega
theorem HSt.kp0 (h : HSt S Z FI FR GR AI BR AN) (w : HWf C FR GR BR AN) (x : HKp C t FI FI2 FR FR2 GR GR2 AI AI2 BR BR2 AN AN2) (f0 : ∀ k, k ∈ [3, 4, 5] → FI2 0 0 k = FI 0 0 k) (a7 : AI2 307 0 = AI 307 0) (a8 : AI2 308 0 = AI 308 0) (ht : t.1 < 309 ∨ 314 < t.1) : HSt S Z FI2 FR2 GR2 AI2 BR2 AN2 := by
  have hne : ∀ s, 309 ≤ s → s ≤ 314 → ((s, 0) : Rf) ≠ t := fun s h1 h2 q => by
    have : s = t.1 := congrArg Prod.fst q
    omega
  exact (HSt.mk (daily := by rw [f0 4 (by decide)]; exact h.daily) (weekly := by rw [f0 5 (by decide)]; exact h.weekly) (today := by rw [f0 3 (by decide)]; exact h.today) (one := fun g hg => by rw [a7]; exact h.one g hg) (other := fun g hg => by rw [a8]; exact h.other g hg) (opL := h.opL.kp w x (old_base (by decide)) (hne _ (by decide) (by decide))) (op := fun o ho => (h.op o ho).kp w x (h.opL.old w ho)) (sgL := h.sgL.kp w x (old_base (by decide)) (hne _ (by decide) (by decide))) (sg := fun s hs => (h.sg s hs).kp w x (h.sgL.old w hs)) (caL := h.caL.kp w x (old_base (by decide)) (hne _ (by decide) (by decide))) (ptL := h.ptL.kp w x (old_base (by decide)) (hne _ (by decide) (by decide))) (pt := fun k hk => by
      have q := h.pt k hk
      obtain ⟨e, _, _⟩ := x.of q.1 (by omega) (by omega) (h.ptL.old w hk)
      rw [e]; exact q) (ilL := h.ilL.kp w x (old_base (by decide)) (hne _ (by decide) (by decide))) (il := fun k hk => by
      have q := h.il k hk
      obtain ⟨e, _, _⟩ := x.of q.1 (by omega) (by omega) (h.ilL.old w hk)
      rw [e]; exact q) (leL := h.leL.kp w x (old_base (by decide)) (hne _ (by decide) (by decide))) (le := fun k hk => by
      have q := h.le k hk
      obtain ⟨e, _, _⟩ := x.of q.1 (by omega) (by omega) (h.leL.old w hk)
      rw [e]; exact q) (oinj := h.oinj))
end
end
