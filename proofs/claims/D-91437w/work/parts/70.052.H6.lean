noncomputable section
set_option linter.unusedVariables false
set_option linter.unusedSimpArgs false
/-! PLAIN 46: what the house's scratch leaves alone -/
def HFr (FI FI2 AI AI2 : OhI) (BR BR2 : OhQ) : Prop :=
  (∀ s i, ohKd s ≠ 3 → 1 < ohKd s → FI2 s i = FI s i) ∧
  (∀ k, k ∈ [3, 4, 5] → FI2 0 0 k = FI 0 0 k) ∧
  (∀ s, s ∈ [5, 307, 308] → AI2 s = AI s) ∧
  (∀ s, ohKd s ≠ 105 → BR2 s = BR s)
theorem HFr.mk {FI FI2 AI AI2 : OhI} {BR BR2 : OhQ}
    (f : ∀ s i, ohKd s ≠ 3 → 1 < ohKd s → FI2 s i = FI s i)
    (f0 : ∀ k, k ∈ [3, 4, 5] → FI2 0 0 k = FI 0 0 k)
    (a : ∀ s, s ∈ [5, 307, 308] → AI2 s = AI s)
    (b : ∀ s, ohKd s ≠ 105 → BR2 s = BR s) :
    HFr FI FI2 AI AI2 BR BR2 := ⟨f, f0, a, b⟩
theorem HFr.f {FI FI2 AI AI2 : OhI} {BR BR2 : OhQ} (h : HFr FI FI2 AI AI2 BR BR2) : ∀ s i, ohKd s ≠ 3 → 1 < ohKd s → FI2 s i = FI s i := h.1
theorem HFr.f0 {FI FI2 AI AI2 : OhI} {BR BR2 : OhQ} (h : HFr FI FI2 AI AI2 BR BR2) : ∀ k, k ∈ [3, 4, 5] → FI2 0 0 k = FI 0 0 k := h.2.1
theorem HFr.a {FI FI2 AI AI2 : OhI} {BR BR2 : OhQ} (h : HFr FI FI2 AI AI2 BR BR2) : ∀ s, s ∈ [5, 307, 308] → AI2 s = AI s := h.2.2.1
theorem HFr.b {FI FI2 AI AI2 : OhI} {BR BR2 : OhQ} (h : HFr FI FI2 AI AI2 BR BR2) : ∀ s, ohKd s ≠ 105 → BR2 s = BR s := h.2.2.2
theorem HFr.refl {FI AI : OhI} {BR : OhQ} : HFr FI FI AI AI BR BR := ⟨fun _ _ _ _ => rfl, fun _ _ => rfl, fun _ _ => rfl, fun _ _ => rfl⟩
theorem HFr.trans {FI FI2 FI3 AI AI2 AI3 : OhI} {BR BR2 BR3 : OhQ} (h : HFr FI FI2 AI AI2 BR BR2) (h2 : HFr FI2 FI3 AI2 AI3 BR2 BR3) : HFr FI FI3 AI AI3 BR BR3 :=
  ⟨fun s i q1 q2 => (h2.f s i q1 q2).trans (h.f s i q1 q2), fun k q => (h2.f0 k q).trans (h.f0 k q), fun s q => (h2.a s q).trans (h.a s q), fun s q => (h2.b s q).trans (h.b s q)⟩
section
variable {FI FI2 AI AI2 : OhI} {FR GR BR BR2 : OhQ} {AN : OhN} {S : PSt} {Z : PZ}
theorem hLs.congr {t : Rf} {n : Nat} {f : Nat → Rf} (h : hLs FI GR BR AN t n f) (x : HFr FI FI2 AI AI2 BR BR2) : hLs FI2 GR BR2 AN t n f := by
  obtain ⟨h0, h1, a, h2, h3, h6, h4, h5⟩ := h
  refine ⟨h0, by rw [x.f _ _ (by omega) (by omega)]; exact h1, a, h2, h3, h6, h4, fun k hk => ?_⟩
  rw [x.b a.1 (by rcases h6 with q | q; omega; rw [q]; decide)]
  exact h5 k hk
theorem hCd.congr (x : HFr FI FI2 AI AI2 BR BR2) : ∀ {q : PCd} {r : Rf}, hCd FI FR q r → hCd FI2 FR q r
  | .leaf (.inl a), r, h => by
    obtain ⟨h0, h1⟩ := h
    exact ⟨h0, by rw [x.f _ _ (by omega) (by omega)]; exact h1⟩
  | .leaf (.inr (a, g, m)), r, h => by
    obtain ⟨h0, h1, h2, h3⟩ := h
    refine ⟨h0, ?_, ?_, ?_⟩ <;> rw [x.f _ _ (by omega) (by omega)] <;> assumption
  | .branch 0 q _, r, h => by
    obtain ⟨h0, h1, y, h2, h3⟩ := h
    exact ⟨h0, by rw [x.f _ _ (by omega) (by omega)]; exact h1, y, h2, hCd.congr x h3⟩
  | .branch 1 p q, r, h => by
    obtain ⟨h0, h1, ⟨y, h2, h3⟩, z, h4, h5⟩ := h
    exact ⟨h0, by rw [x.f _ _ (by omega) (by omega)]; exact h1, ⟨y, h2, hCd.congr x h3⟩, z, h4, hCd.congr x h5⟩
  | .branch (_ + 2) p q, r, h => by
    obtain ⟨h0, h1, ⟨y, h2, h3⟩, z, h4, h5⟩ := h
    exact ⟨h0, by rw [x.f _ _ (by omega) (by omega)]; exact h1, ⟨y, h2, hCd.congr x h3⟩, z, h4, hCd.congr x h5⟩
theorem HRo.congr {r : PRo} {a : Rf} (h : HRo r a FI) (x : HFr FI FI2 AI AI2 BR BR2) : HRo r a FI2 := by
  have k := h.kd
  have e := x.f a.1 a.2 (by omega) (by omega)
  exact ⟨k, by rw [e]; exact h.voice, by rw [e]; exact h.strain, by rw [e]; exact h.tongue, by rw [e]; exact h.size⟩
theorem HOp.congr {o : POp} {k : Nat} {a : Rf} (h : HOp o k a FI FR GR AI BR AN) (x : HFr FI FI2 AI AI2 BR BR2) : HOp o k a FI2 FR GR AI2 BR2 AN := by
  have k := h.kd
  have e := x.f a.1 a.2 (by omega) (by omega)
  obtain ⟨s, s1, s2, s3, s4, s5⟩ := h.seats
  obtain ⟨y, f, r1, r2, r3⟩ := h.roles
  exact ⟨k, by rw [e]; exact h.num, by rw [e]; exact h.hours, by rw [e]; exact h.set, by rw [e]; exact h.need, by rw [e]; exact h.chorus, ⟨s, s1, s2, s3, s4, fun g hg => by rw [s3, x.a 5 (by decide), ← s3]; exact s5 g hg⟩, ⟨y, f, r1, r2.congr x, fun r hr => (r3 r hr).congr x⟩, h.rsite⟩
theorem HCt.congr {t : PCt} {a : Rf} (h : HCt t a FI FR GR BR AN) (x : HFr FI FI2 AI AI2 BR BR2) : HCt t a FI2 FR GR BR2 AN := by
  have k := h.kd
  have e := x.f a.1 a.2 (by omega) (by omega)
  obtain ⟨y, f, l1, l2, l3⟩ := h.leaves
  obtain ⟨z, g, f1, f2, f3⟩ := h.fees
  refine ⟨k, by rw [e]; exact h.rest, by rw [e]; exact h.day, by rw [e]; exact h.week, by rw [e]; exact h.voice, ⟨y, f, l1, l2.congr x, fun i hi => ?_⟩, ⟨z, g, f1, f2.congr x, fun i hi => ?_⟩, h.lsite, h.fsite⟩
  · obtain ⟨q0, q1, q2⟩ := l3 i hi
    rw [x.f _ _ (by omega) (by omega)]; exact ⟨q0, q1, q2⟩
  · obtain ⟨q0, q1, q2⟩ := f3 i hi
    refine ⟨q0, by rw [x.f _ _ (by omega) (by omega)]; exact q1, ?_⟩
    cases hc : t.cd i with
    | none => rw [hc] at q2; exact q2
    | some q =>
      rw [hc] at q2
      obtain ⟨w, w1, w2⟩ := q2
      exact ⟨w, w1, hCd.congr x w2⟩
theorem HSg.congr {s : PSg} {t : PCt} {k : Nat} {a : Rf} (h : HSg s t k a FI FR GR BR AN) (x : HFr FI FI2 AI AI2 BR BR2) : HSg s t k a FI2 FR GR BR2 AN := by
  have k := h.kd
  have e := x.f a.1 a.2 (by omega) (by omega)
  obtain ⟨y, h1, h2⟩ := h.ct
  exact ⟨k, by rw [e]; exact h.num, by rw [e]; exact h.voices, by rw [e]; exact h.tongues, by rw [e]; exact h.size, y, h1, h2.congr x⟩
theorem HCl.congr {c : PCa} {k : Nat} {a : Rf} (h : HCl c k a Z FI FR) (x : HFr FI FI2 AI AI2 BR BR2) : HCl c k a Z FI2 FR := by
  have k := h.kd
  have e := x.f a.1 a.2 (by omega) (by omega)
  exact ⟨k, by rw [e]; exact h.num, by rw [e]; exact h.day, by rw [e]; exact h.kind, by rw [e]; exact h.halves, by rw [e]; exact h.beg, by rw [e]; exact h.fin, h.op⟩
theorem HSt.congr (h : HSt S Z FI FR GR AI BR AN) (x : HFr FI FI2 AI AI2 BR BR2) : HSt S Z FI2 FR GR AI2 BR2 AN := HSt.mk (daily := by rw [x.f0 4 (by decide)]; exact h.daily) (weekly := by rw [x.f0 5 (by decide)]; exact h.weekly) (today := by rw [x.f0 3 (by decide)]; exact h.today) (one := by rw [x.a 307 (by decide)]; exact h.one) (other := by rw [x.a 308 (by decide)]; exact h.other) (opL := h.opL.congr x) (op := fun o ho => (h.op o ho).congr x) (sgL := h.sgL.congr x) (sg := fun s hs => (h.sg s hs).congr x) (caL := h.caL.congr x) (ptL := h.ptL.congr x) (pt := fun k hk => by
    obtain ⟨q0, q1, q2, q3, q4, q5⟩ := h.pt k hk
    rw [x.f _ _ (by omega) (by omega)]; exact ⟨q0, q1, q2, q3, q4, q5⟩) (ilL := h.ilL.congr x) (il := fun k hk => by
    obtain ⟨q0, q1, q2, q3, q4⟩ := h.il k hk
    rw [x.f _ _ (by omega) (by omega)]; exact ⟨q0, q1, q2, q3, q4⟩) (leL := h.leL.congr x) (le := fun k hk => by
    obtain ⟨q0, q1, q2, q3, q4, q5⟩ := h.le k hk
    rw [x.f _ _ (by omega) (by omega)]; exact ⟨q0, q1, q2, q3, q4, q5⟩) (oinj := h.oinj)
end
section
variable {T : PTb} {Z : PZ} {FI FI2 AI AI2 : OhI} {FR GR BR BR2 : OhQ} {AN : OhN}
theorem HTb.congr (h : HTb T Z FI FR GR AI BR AN) (x : HFr FI FI2 AI AI2 BR BR2) (f1 : FI2 0 0 17 = FI 0 0 17) (f2 : FI2 0 0 18 = FI 0 0 18) (a1 : ∀ s, s ∈ [419, 420, 421] → AI2 s = AI s) (b : BR2 316 = BR 316) : HTb T Z FI2 FR GR AI2 BR2 AN := HTb.mk (toHSt := h.toHSt.congr x) (ca := fun c hc => (h.ca c hc).congr x) (cinj := h.cinj) (ordered := by rw [f1]; exact h.ordered) (asOf := by rw [f2]; exact h.asOf) (order := by rw [b]; exact h.order) (cast := by rw [a1 419 (by decide)]; exact h.cast) (ahead := by rw [a1 420 (by decide)]; exact h.ahead) (cover := by rw [a1 421 (by decide)]; exact h.cover)
/-- only Asked is written -/
theorem HTb.ask (h : HTb T Z FI FR GR AI BR AN) (w : Nat → Int32) : HTb T Z (sA FI 327 0 w) FR GR AI BR AN :=
  h.congr ⟨fun s i q1 q2 => sA_ne _ _ (by rintro ⟨rfl, _⟩; exact q1 (by decide)), fun k _ => rfl, fun _ _ => rfl, fun _ _ => rfl⟩ rfl rfl (fun _ _ => rfl) rfl
/-- of arrays, only these are written -/
theorem HTb.eqx_ {L : List Nat} (h : HTb T Z FI FR GR AI BR AN) (e : eqx L AI AI2) (hL : ∀ s ∈ L, s ∉ [5, 307, 308, 419, 420, 421]) : HTb T Z FI FR GR AI2 BR AN :=
  h.congr ⟨fun _ _ _ _ => rfl, fun _ _ => rfl, fun s hs => e s (fun q => hL s q ((by decide : ∀ s ∈ [5, 307, 308], s ∈ [5, 307, 308, 419, 420, 421]) s hs)), fun _ _ => rfl⟩ rfl rfl (fun s hs => e s (fun q => hL s q ((by decide : ∀ s ∈ [419, 420, 421], s ∈ [5, 307, 308, 419, 420, 421]) s hs))) rfl
end
end
