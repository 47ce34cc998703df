noncomputable section
set_option linter.unusedVariables false
set_option linter.unusedSimpArgs false
/-! PLAIN 63: steps with costs -/
section
variable {α β γ : Type} {Q : α → Prop} {x y : Option (α × (Nat × Nat))} {B C : Nat}
theorem wk_gdJ {c c' : Prop} (e : c = c') (hc : c') (h1 : wk x B C Q) : wk (gd c x) B C Q := by subst e; exact wk_gd hc h1
theorem wk_ifT {c : Prop} [Decidable c] (hc : c) (h1 : wk x B C Q) : wk (if c then x else y) B C Q := by rw [if_pos hc]; exact h1
theorem wk_ifF {c : Prop} [Decidable c] (hc : ¬ c) (h1 : wk y B C Q) : wk (if c then x else y) B C Q := by rw [if_neg hc]; exact h1
theorem wk_ifJ {c c' : Prop} [Decidable c] (e : c = c') (h1 : c' → wk x B C Q) (h2 : ¬ c' → wk y B C Q) : wk (if c then x else y) B C Q := by subst e; exact wk_if h1 h2
theorem wk_ifJT {c c' : Prop} [Decidable c] (e : c = c') (hc : c') (h1 : wk x B C Q) : wk (if c then x else y) B C Q := by subst e; exact wk_ifT hc h1
theorem wk_ifJF {c c' : Prop} [Decidable c] (e : c = c') (hc : ¬ c') (h1 : wk y B C Q) : wk (if c then x else y) B C Q := by subst e; exact wk_ifF hc h1
theorem wk_eli {f : β → Option (α × (Nat × Nat))} {g : γ → Option (α × (Nat × Nat))} {a : β} (h : wk (f a) B C Q) : wk (Sum.elim f g (.inl a)) B C Q := h
theorem wk_elr {f : β → Option (α × (Nat × Nat))} {g : γ → Option (α × (Nat × Nat))} {b : γ} (h : wk (g b) B C Q) : wk (Sum.elim f g (.inr b)) B C Q := h
theorem wk_bind {f : β → Option (α × (Nat × Nat))} {y : Option β} (h : wp y (fun a => wk (f a) B C Q)) : wk (y.bind f) B C Q := by
  obtain ⟨a, rfl, r⟩ := h
  exact r
theorem wk_costS {q : Nat × Nat} (h1 : q.1 ≤ B) (h2 : q.2 ≤ C) (h : wk x (B - q.1) (C - q.2) Q) : wk (oCost q x) B C Q := wk_cost h (by omega) (by omega)
theorem wk_some0 {a : α} (h : Q a) : wk (some (a, ((0 : Nat), (0 : Nat)))) B C Q := wk_some (Nat.zero_le _) (Nat.zero_le _) h
/-- a callee with its cost, as a fact -/
theorem wk_get {y : Option (β × (Nat × Nat))} {R : β → Prop} {B1 C1 : Nat} (h : wk y B1 C1 R) : ∃ a c d, y = some (a, (c, d)) ∧ c ≤ B1 ∧ d ≤ C1 ∧ R a := by
  obtain ⟨a, c, e, h1, h2, r⟩ := h
  exact ⟨a, c.1, c.2, e, h1, h2, r⟩
theorem wk_of {a : α} {c d : Nat} (e : x = some (a, (c, d))) (h1 : c ≤ B) (h2 : d ≤ C) (q : Q a) : wk x B C Q := ⟨a, (c, d), e, h1, h2, q⟩
end
/-! PLAIN 64: lists grow -/
/-- one of the objects that a run makes, and it is made -/
def hOld (C : OhC) (a : Rf) : Prop := 4 ≤ a.1 ∧ a.1 ≤ 36 → a.2 < C a.1
def HWf (C : OhC) (FR GR BR : OhQ) (AN : OhN) : Prop :=
  (∀ s i k r, FR s i k = some r → hOld C r) ∧
  (∀ s i k r, GR s i k = some r → hOld C r) ∧
  (∀ s i k r, s ≠ 316 → BR s i k = some r → hOld C r) ∧
  (∀ s i s' i' a, ohKd s = 17 → ohKd s' = 17 → GR s i 1 = some a → GR s' i' 1 = some a → a.1 ≠ 40 → s = s' ∧ i = i') ∧
  (0 < C 40) ∧
  (0 < C 58) ∧
  (AN 40 0 = 0)
theorem HWf.mk {C : OhC} {FR GR BR : OhQ} {AN : OhN}
    (fr : ∀ s i k r, FR s i k = some r → hOld C r)
    (gr : ∀ s i k r, GR s i k = some r → hOld C r)
    (br : ∀ s i k r, s ≠ 316 → BR s i k = some r → hOld C r)
    (own : ∀ s i s' i' a, ohKd s = 17 → ohKd s' = 17 → GR s i 1 = some a → GR s' i' 1 = some a → a.1 ≠ 40 → s = s' ∧ i = i')
    (c40 : 0 < C 40)
    (c58 : 0 < C 58)
    (n40 : AN 40 0 = 0) :
    HWf C FR GR BR AN := ⟨fr, gr, br, own, c40, c58, n40⟩
theorem HWf.fr {C : OhC} {FR GR BR : OhQ} {AN : OhN} (h : HWf C FR GR BR AN) : ∀ s i k r, FR s i k = some r → hOld C r := h.1
theorem HWf.gr {C : OhC} {FR GR BR : OhQ} {AN : OhN} (h : HWf C FR GR BR AN) : ∀ s i k r, GR s i k = some r → hOld C r := h.2.1
theorem HWf.br {C : OhC} {FR GR BR : OhQ} {AN : OhN} (h : HWf C FR GR BR AN) : ∀ s i k r, s ≠ 316 → BR s i k = some r → hOld C r := h.2.2.1
theorem HWf.own {C : OhC} {FR GR BR : OhQ} {AN : OhN} (h : HWf C FR GR BR AN) : ∀ s i s' i' a, ohKd s = 17 → ohKd s' = 17 → GR s i 1 = some a → GR s' i' 1 = some a → a.1 ≠ 40 → s = s' ∧ i = i' := h.2.2.2.1
theorem HWf.c40 {C : OhC} {FR GR BR : OhQ} {AN : OhN} (h : HWf C FR GR BR AN) : 0 < C 40 := h.2.2.2.2.1
theorem HWf.c58 {C : OhC} {FR GR BR : OhQ} {AN : OhN} (h : HWf C FR GR BR AN) : 0 < C 58 := h.2.2.2.2.2.1
theorem HWf.n40 {C : OhC} {FR GR BR : OhQ} {AN : OhN} (h : HWf C FR GR BR AN) : AN 40 0 = 0 := h.2.2.2.2.2.2
/-- what a list's growing leaves alone -/
def HAd (C C2 : OhC) (t : Rf) (FI FI2 : OhI) (GR GR2 BR BR2 : OhQ) (AN AN2 : OhN) : Prop :=
  (∀ s i, ¬ (s = t.1 ∧ i = t.2) → FI2 s i = FI s i) ∧
  (∀ s i, ¬ (s = t.1 ∧ i = t.2) → GR2 s i = GR s i) ∧
  (∀ a : Rf, hOld C a → GR t.1 t.2 1 ≠ some a → BR2 a.1 a.2 = BR a.1 a.2) ∧
  (∀ s, s ≠ 33 → s ≠ 34 → BR2 s = BR s) ∧
  (∀ a : Rf, hOld C a → AN2 a.1 a.2 = AN a.1 a.2) ∧
  (∀ s, s ≠ 33 → s ≠ 34 → AN2 s = AN s) ∧
  (∀ s, C s ≤ C2 s) ∧
  (∀ s, s ≠ 33 → s ≠ 34 → C2 s = C s) ∧
  (GR2 t.1 t.2 1 = GR t.1 t.2 1 ∨ ∀ a, GR2 t.1 t.2 1 = some a → ¬ hOld C a)
theorem HAd.mk {C C2 : OhC} {t : Rf} {FI FI2 : OhI} {GR GR2 BR BR2 : OhQ} {AN AN2 : OhN}
    (fi : ∀ s i, ¬ (s = t.1 ∧ i = t.2) → FI2 s i = FI s i)
    (gr : ∀ s i, ¬ (s = t.1 ∧ i = t.2) → GR2 s i = GR s i)
    (br : ∀ a : Rf, hOld C a → GR t.1 t.2 1 ≠ some a → BR2 a.1 a.2 = BR a.1 a.2)
    (br0 : ∀ s, s ≠ 33 → s ≠ 34 → BR2 s = BR s)
    (an : ∀ a : Rf, hOld C a → AN2 a.1 a.2 = AN a.1 a.2)
    (an0 : ∀ s, s ≠ 33 → s ≠ 34 → AN2 s = AN s)
    (cc : ∀ s, C s ≤ C2 s)
    (c0 : ∀ s, s ≠ 33 → s ≠ 34 → C2 s = C s)
    (gt : GR2 t.1 t.2 1 = GR t.1 t.2 1 ∨ ∀ a, GR2 t.1 t.2 1 = some a → ¬ hOld C a) :
    HAd C C2 t FI FI2 GR GR2 BR BR2 AN AN2 := ⟨fi, gr, br, br0, an, an0, cc, c0, gt⟩
theorem HAd.fi {C C2 : OhC} {t : Rf} {FI FI2 : OhI} {GR GR2 BR BR2 : OhQ} {AN AN2 : OhN} (h : HAd C C2 t FI FI2 GR GR2 BR BR2 AN AN2) : ∀ s i, ¬ (s = t.1 ∧ i = t.2) → FI2 s i = FI s i := h.1
theorem HAd.gr {C C2 : OhC} {t : Rf} {FI FI2 : OhI} {GR GR2 BR BR2 : OhQ} {AN AN2 : OhN} (h : HAd C C2 t FI FI2 GR GR2 BR BR2 AN AN2) : ∀ s i, ¬ (s = t.1 ∧ i = t.2) → GR2 s i = GR s i := h.2.1
theorem HAd.br {C C2 : OhC} {t : Rf} {FI FI2 : OhI} {GR GR2 BR BR2 : OhQ} {AN AN2 : OhN} (h : HAd C C2 t FI FI2 GR GR2 BR BR2 AN AN2) : ∀ a : Rf, hOld C a → GR t.1 t.2 1 ≠ some a → BR2 a.1 a.2 = BR a.1 a.2 := h.2.2.1
theorem HAd.br0 {C C2 : OhC} {t : Rf} {FI FI2 : OhI} {GR GR2 BR BR2 : OhQ} {AN AN2 : OhN} (h : HAd C C2 t FI FI2 GR GR2 BR BR2 AN AN2) : ∀ s, s ≠ 33 → s ≠ 34 → BR2 s = BR s := h.2.2.2.1
theorem HAd.an {C C2 : OhC} {t : Rf} {FI FI2 : OhI} {GR GR2 BR BR2 : OhQ} {AN AN2 : OhN} (h : HAd C C2 t FI FI2 GR GR2 BR BR2 AN AN2) : ∀ a : Rf, hOld C a → AN2 a.1 a.2 = AN a.1 a.2 := h.2.2.2.2.1
theorem HAd.an0 {C C2 : OhC} {t : Rf} {FI FI2 : OhI} {GR GR2 BR BR2 : OhQ} {AN AN2 : OhN} (h : HAd C C2 t FI FI2 GR GR2 BR BR2 AN AN2) : ∀ s, s ≠ 33 → s ≠ 34 → AN2 s = AN s := h.2.2.2.2.2.1
theorem HAd.cc {C C2 : OhC} {t : Rf} {FI FI2 : OhI} {GR GR2 BR BR2 : OhQ} {AN AN2 : OhN} (h : HAd C C2 t FI FI2 GR GR2 BR BR2 AN AN2) : ∀ s, C s ≤ C2 s := h.2.2.2.2.2.2.1
theorem HAd.c0 {C C2 : OhC} {t : Rf} {FI FI2 : OhI} {GR GR2 BR BR2 : OhQ} {AN AN2 : OhN} (h : HAd C C2 t FI FI2 GR GR2 BR BR2 AN AN2) : ∀ s, s ≠ 33 → s ≠ 34 → C2 s = C s := h.2.2.2.2.2.2.2.1
theorem HAd.gt {C C2 : OhC} {t : Rf} {FI FI2 : OhI} {GR GR2 BR BR2 : OhQ} {AN AN2 : OhN} (h : HAd C C2 t FI FI2 GR GR2 BR BR2 AN AN2) : GR2 t.1 t.2 1 = GR t.1 t.2 1 ∨ ∀ a, GR2 t.1 t.2 1 = some a → ¬ hOld C a := h.2.2.2.2.2.2.2.2
theorem kd106 {s : Nat} (h : ohKd s = 106) : s = 33 ∨ s = 34 := by
  by_cases q : s < 500
  · have : ∀ s : Fin 500, ohKd s.1 = 106 → s.1 = 33 ∨ s.1 = 34 := by decide +kernel
    exact this ⟨s, q⟩ h
  · exfalso
    have hl : ohKdT.length ≤ 500 := by decide +kernel
    unfold ohKd at h
    rw [List.getD_eq_getElem?_getD, List.getElem?_eq_none (by omega)] at h
    simp at h
theorem sar1 {m : Nat} (h : m < 100000) : J (m : Int) >>> (J 1 &&& J 31) = J ((m / 2 : Nat) : Int) := by
  show J (m : Int) >>> (J ((1 : Nat) : Int) &&& J 31) = _
  rw [jm31 ⟨1, by omega⟩, ← Int32.toInt_inj, toInt_J ⟨by omega, by omega⟩, ← Int32.toInt_toBitVec, Int32.toBitVec_shiftRight, BitVec.sshiftRight_eq', jsm ⟨1, by omega⟩, BitVec.toInt_sshiftRight, Int32.toInt_toBitVec, toInt_J ⟨by omega, by omega⟩, Int.shiftRight_eq_div_pow]
  simp
def updF (f : Nat → Rf) (m : Nat) (e : Rf) : Nat → Rf := fun k => if k = m then e else f k
theorem h_newLen {m : Nat} (h : m < 50000) : mJ4_newLength (J (m : Int)) (J 1) (J ((m / 2 : Nat) : Int)) = some (J ((m + max 1 (m / 2) : Nat) : Int)) := by
  have e := h_max (a := 1) (b := ((m / 2 : Nat) : Int)) (by omega) (by omega) (by omega) (by omega)
  apply wp_eq
  unfold mJ4_newLength
  ((repeat' (first | ((with_reducible apply wp_let); try dsimp only) | ((with_reducible apply wp_gdJ); (focus (first | ((simp (disch := omega) only [J_lit, J_add, J_sub, J_mul, J_neg, J_n, jle, jlt, jeq, jnn, jnat, Int.toNat_natCast, bJ_0, bJ_1, bft, gd_T, nar_J, nar_0, nar_1, if_true, if_false, Option.bind_some, gd_t, e]); rfl) | rfl)); (focus (first | exact True.intro | (first | exact vp_J (by omega) (by omega) (by omega) | omega)))) | ((with_reducible apply wp_ifJT); (focus (first | ((simp (disch := omega) only [J_lit, J_add, J_sub, J_mul, J_neg, J_n, jle, jlt, jeq, jnn, jnat, Int.toNat_natCast, bJ_0, bJ_1, bft, gd_T, nar_J, nar_0, nar_1, if_true, if_false, Option.bind_some, gd_t, decide_eq_false_iff_not, decide_eq_true_eq, e]); rfl) | rfl)); (focus (first | exact True.intro | omega))) | ((with_reducible apply wp_ifJF); (focus (first | ((simp (disch := omega) only [J_lit, J_add, J_sub, J_mul, J_neg, J_n, jle, jlt, jeq, jnn, jnat, Int.toNat_natCast, bJ_0, bJ_1, bft, gd_T, nar_J, nar_0, nar_1, if_true, if_false, Option.bind_some, gd_t, decide_eq_false_iff_not, decide_eq_true_eq, e]); rfl) | rfl)); (focus (first | exact not_false | omega))) | ((with_reducible apply wp_ifJ); (focus (first | ((simp (disch := omega) only [J_lit, J_add, J_sub, J_mul, J_neg, J_n, jle, jlt, jeq, jnn, jnat, Int.toNat_natCast, bJ_0, bJ_1, bft, gd_T, nar_J, nar_0, nar_1, if_true, if_false, Option.bind_some, gd_t, decide_eq_false_iff_not, decide_eq_true_eq, e]); rfl) | rfl)); all_goals intro _) | (with_reducible apply wp_some) | ((with_reducible apply wp_eli); try dsimp only) | ((with_reducible apply wp_elr); try dsimp only) | ((with_reducible apply wp_bindE); (focus ((simp (disch := omega) only [J_lit, J_add, J_sub, J_mul, J_neg, J_n, jle, jlt, jeq, jnn, jnat, Int.toNat_natCast, bJ_0, bJ_1, bft, gd_T, nar_J, nar_0, nar_1, if_true, if_false, Option.bind_some, gd_t, e]); rfl)); try dsimp only) | (with_reducible apply wp_bind))); all_goals (try (simp (disch := omega) only [J_lit, J_add, J_sub, J_mul, J_neg, J_n, jle, jlt, jeq, jnn, jnat, Int.toNat_natCast, bJ_0, bJ_1, bft, gd_T, nar_J, nar_0, nar_1, if_true, if_false, Option.bind_some, gd_t, e])))
  omega
theorem oOb_of {e : Rf} (h : ohKd e.1 < 17) : oOb (some e) := ⟨e, rfl, h⟩
def adF (FI : OhI) (t : Rf) (m : Nat) : OhI := sA FI t.1 t.2 (uA (uA (FI t.1 t.2) 0 (FI t.1 t.2 0 + J 1)) 2 (J ((m + 1 : Nat) : Int)))
section
variable {FI : OhI} {FR GR BR : OhQ} {AN : OhN} {C : OhC} {t a e : Rf} {m : Nat} {f : Nat → Rf}
/-- the place is there: the element is put in -/
theorem h_addAt (hm : m < 50000) (ha : ohKd a.1 = 106) (hN : m < AN a.1 a.2) (he : ohKd e.1 < 17) {F : OhI} (hF : F = sA FI t.1 t.2 (uA (FI t.1 t.2) 0 (FI t.1 t.2 0 + J 1))) :
    mJ2_add_2_j11 F GR BR AN C t (some e) (some a) (J (m : Int)) = some ((adF FI t m, GR, sA BR a.1 a.2 (uA (BR a.1 a.2) m (some e)), AN, C), (0, 0)) := by
  subst hF
  have h1 : oD 106 (some a) = some a := oD_of ha
  have h2 := oOb_of he
  have h3 : vp_in (J (m : Int)) (AN a.1 a.2) := vp_J (by omega) (by omega) (by omega)
  unfold mJ2_add_2_j11
  rw [h1, Option.bind_some, gd_t h3, gd_t h2]
  unfold oLet
  rw [jnn (by omega), J_1, J_add, sA_sA, sA_same]
  rfl
theorem hOld_mono {C C2 : OhC} {a : Rf} (h : hOld C a) (c : ∀ s, C s ≤ C2 s) : hOld C2 a := fun q => Nat.lt_of_lt_of_le (h q) (c a.1)
theorem uC_le (C : OhC) (s : Nat) : ∀ s', C s' ≤ uA C s (C s + 1) s' := fun s' => by
  rw [uA_at]; split
  · rename_i q; subst q; omega
  · exact Nat.le_refl _
theorem add_fin {s N : Nat} {g : Nat → OhR} (ht : ohKd t.1 = 17) (hs : s = 33 ∨ s = 34) (w : HWf C FR GR BR AN) (hN : m < N) (hN2 : N ≤ 100000) (hg : ∀ k, k < m → g k = some (f k)) (hg2 : ∀ k r, g k = some r → hOld C r) (hoe : hOld C e) :
    hLs (adF FI t m) (sA GR t.1 t.2 (uA (GR t.1 t.2) 1 (some (s, C s)))) (sA BR s (C s) (uA g m (some e))) (sA AN s (C s) N) t (m + 1) (updF f m e)
    ∧ HAd C (uA C s (C s + 1)) t FI (adF FI t m) GR (sA GR t.1 t.2 (uA (GR t.1 t.2) 1 (some (s, C s)))) BR (sA BR s (C s) (uA g m (some e))) AN (sA AN s (C s) N)
    ∧ HWf (uA C s (C s + 1)) FR (sA GR t.1 t.2 (uA (GR t.1 t.2) 1 (some (s, C s)))) (sA BR s (C s) (uA g m (some e))) (sA AN s (C s) N) := by
  have hkd : ohKd s = 106 := by rcases hs with rfl | rfl <;> decide
  have hfr : ∀ a : Rf, hOld C a → ¬ (a.1 = s ∧ a.2 = C s) := fun a ha q => by
    have := ha (by omega)
    rw [q.1, q.2] at this; omega
  have hnew : hOld (uA C s (C s + 1)) (s, C s) := fun _ => by show C s < uA C s (C s + 1) s; rw [uA_same]; omega
  refine ⟨⟨ht, ?_, (s, C s), ?_, .inr hkd, .inl hkd, ⟨?_, ?_⟩, fun k hk => ?_⟩, ⟨fun s' i' q => ?_, fun s' i' q => ?_, fun a ha q => ?_, fun s' h1 h2 => ?_, fun a ha => ?_, fun s' h1 h2 => ?_, uC_le C s, fun s' h1 h2 => ?_, .inr fun a q => ?_⟩, ⟨fun s' i k r h => ?_, fun s' i k r h => ?_, fun s' i k r n316 h => ?_, fun s1 i1 s2 i2 b k1 k2 h1 h2 h3 => ?_, ?_, ?_, ?_⟩⟩
  · unfold adF; rw [sA_same, uA_same]
  · rw [sA_same, uA_same]
  · show m + 1 ≤ sA AN s (C s) N s (C s); rw [sA_same]; omega
  · show sA AN s (C s) N s (C s) ≤ _; rw [sA_same]; omega
  · show sA BR s (C s) (uA g m (some e)) s (C s) k = _
    rw [sA_same]
    by_cases q : k = m
    · subst q; rw [uA_same]; simp [updF]
    · rw [uA_ne _ _ q, hg k (by omega)]; simp [updF, q]
  · unfold adF; exact sA_ne _ _ q
  · exact sA_ne _ _ q
  · exact sA_ne _ _ (hfr a ha)
  · exact sA_site _ _ _ (by omega)
  · exact sA_ne _ _ (hfr a ha)
  · exact sA_site _ _ _ (by omega)
  · exact uA_ne _ _ (by omega)
  · rw [sA_same, uA_same] at q; cases q; exact fun z => hfr _ z ⟨rfl, rfl⟩
  · exact hOld_mono (w.fr s' i k r h) (uC_le C s)
  · by_cases q : s' = t.1 ∧ i = t.2
    · rw [q.1, q.2, sA_same] at h
      by_cases q2 : k = 1
      · subst q2; rw [uA_same] at h; cases h; exact hnew
      · rw [uA_ne _ _ q2] at h; exact hOld_mono (w.gr _ _ _ _ h) (uC_le C s)
    · rw [sA_ne _ _ q] at h; exact hOld_mono (w.gr _ _ _ _ h) (uC_le C s)
  · by_cases q : s' = s ∧ i = C s
    · rw [q.1, q.2, sA_same] at h
      by_cases q2 : k = m
      · subst q2; rw [uA_same] at h; cases h; exact hOld_mono hoe (uC_le C s)
      · rw [uA_ne _ _ q2] at h; exact hOld_mono (hg2 _ _ h) (uC_le C s)
    · rw [sA_ne _ _ q] at h; exact hOld_mono (w.br _ _ _ _ n316 h) (uC_le C s)
  · have new : ∀ s1 i1, GR s1 i1 1 ≠ some (s, C s) := fun s1 i1 q => hfr _ (w.gr _ _ _ _ q) ⟨rfl, rfl⟩
    by_cases q1 : s1 = t.1 ∧ i1 = t.2 <;> by_cases q2 : s2 = t.1 ∧ i2 = t.2
    · exact ⟨by rw [q1.1, q2.1], by rw [q1.2, q2.2]⟩
    · rw [sA_ne _ _ q2] at h2
      rw [q1.1, q1.2, sA_same, uA_same] at h1
      cases h1; exact absurd h2 (new _ _)
    · rw [sA_ne _ _ q1] at h1
      rw [q2.1, q2.2, sA_same, uA_same] at h2
      cases h2; exact absurd h1 (new _ _)
    · rw [sA_ne _ _ q1] at h1
      rw [sA_ne _ _ q2] at h2
      exact w.own _ _ _ _ _ k1 k2 h1 h2 h3
  · rw [uA_ne _ _ (by omega)]; exact w.c40
  · rw [uA_ne _ _ (by omega)]; exact w.c58
  · rw [sA_site _ _ _ (by omega)]; exact w.n40
theorem h_copyOf {N : Nat} (ha : ohKd a.1 = 106) (w : HWf C FR GR BR AN) (hoa : hOld C a) (hN : AN a.1 a.2 ≤ N) (hN2 : N ≤ 100000) (hk : ∀ k y, k < AN a.1 a.2 → BR a.1 a.2 k = some y → ohKd y.1 < 17) :
    mJ5_copyOf BR AN C (some a) (J (N : Int)) = some ((some (34, C 34), sA BR 34 (C 34) (va_cpy (BR a.1 a.2) (fun _ => none) 0 0 (AN a.1 a.2)), sA AN 34 (C 34) N, uA C 34 (C 34 + 1)), (1, N)) := by
  have h1 : oD 106 (some a) = some a := oD_of ha
  have h1' : oD2 6 (some a) = some a := by unfold oD2; simp [ha]
  have h2 : oD 106 (some ((34, C 34) : Rf)) = some (34, C 34) := rfl
  have hne : ¬ (a.1 = 34 ∧ a.2 = C 34) := fun q => by
    have := hoa (by omega)
    rw [q.1, q.2] at this; omega
  have hm := h_min (a := ((AN a.1 a.2 : Nat) : Int)) (b := (N : Int)) (by omega) (by omega) (by omega) (by omega)
  have em : min ((AN a.1 a.2 : Nat) : Int) (N : Int) = ((AN a.1 a.2 : Nat) : Int) := by omega
  rw [em] at hm
  have g1 : (¬ J (N : Int) < 0 ∧ J (N : Int) ≤ 100000) := by
    rw [J_0, J_lit, jlt (by omega) (by omega) (by omega) (by omega), jle (by omega) (by omega) (by omega) (by omega)]; omega
  have g2 : oNm (some ((58, 0) : Rf)) (some (58, 0)) := .inl rfl
  have z0 : Int32.toNatClampNeg 0 = 0 := rfl
  unfold mJ5_copyOf mJ5_copyOf_2 mJ5_copyOf_2_j24 oCost oLet
  rw [h1, Option.bind_some, gd_t w.c58, gd_t w.c58, gd_t g2, if_pos rfl, gd_t g1]
  dsimp only
  rw [h1', Option.bind_some, sA_ne _ _ hne, J_n, jnn (by omega), hm, Option.bind_some, Option.bind_some, h2, Option.bind_some, gd_t, sA_ne _ _ hne, sA_same, sA_sA, z0]
  · rw [jnn (by omega)]
    rfl
  · rw [jnn (by omega)]
    refine ⟨⟨by decide, by decide, ?_⟩, ?_, ?_, fun i hi y hy => ?_⟩
    · rw [J_0, jlt (by omega) (by omega) (by omega) (by omega)]; omega
    · rw [sA_ne _ _ hne]; show 0 + _ ≤ _; omega
    · show 0 + _ ≤ sA AN 34 (C 34) N 34 (C 34); rw [sA_same]; omega
    · rw [sA_ne _ _ hne] at hy
      have hy' : BR a.1 a.2 (0 + i) = some y := hy
      rw [Nat.zero_add] at hy'
      exact hk i y hi hy'
theorem h_grow {F : OhI} (hm : m ≤ 1000) (hF : F t.1 t.2 2 = J (m : Int)) (hg : GR t.1 t.2 1 = some a) (ha : ohKd a.1 = 106) (w : HWf C FR GR BR AN) (hN : AN a.1 a.2 = m) (hk : ∀ k y, k < m → BR a.1 a.2 k = some y → ohKd y.1 < 17) :
    mJ2_grow F GR BR AN C t = some ((some (34, C 34), sA GR t.1 t.2 (uA (GR t.1 t.2) 1 (some (34, C 34))), sA BR 34 (C 34) (va_cpy (BR a.1 a.2) (fun _ => none) 0 0 m), sA AN 34 (C 34) (m + max 1 (m / 2)), uA C 34 (C 34 + 1)), (1, m + max 1 (m / 2))) := by
  have h1' : oD2 6 (some a) = some a := by unfold oD2; simp [ha]
  have hc := h_copyOf (N := m + max 1 (m / 2)) ha w (w.gr _ _ _ _ hg) (by omega) (by omega) (fun k y q => hk k y (by omega))
  rw [hN] at hc
  have hl := h_newLen (m := m) (by omega)
  have hne : (some a = some ((40, 0) : Rf)) = False := eq_false (fun q => by cases q; revert ha; decide)
  have hnm : oNm (some a) (some ((40, 0) : Rf)) := .inr ⟨fun b q => by cases q; rw [ha]; decide, fun b q => by cases q; decide⟩
  have ej : mJ2_grow_2_j20 GR BR AN C t (J ((m : Int) + 1)) (J (m : Int)) = some ((some (34, C 34), sA GR t.1 t.2 (uA (GR t.1 t.2) 1 (some (34, C 34))), sA BR 34 (C 34) (va_cpy (BR a.1 a.2) (fun _ => none) 0 0 m), sA AN 34 (C 34) (m + max 1 (m / 2)), uA C 34 (C 34 + 1)), (1, m + max 1 (m / 2))) := by
    unfold mJ2_grow_2_j20 oCost oLet
    rw [J_sub, J_1, J_lit 31, sar1 (by omega), show (m : Int) + 1 - m = 1 by omega, hl, Option.bind_some, hg, hc]
    rfl
  unfold mJ2_grow mJ2_grow_2 oCost
  rw [hF, hg, h1', Option.bind_some, hN, J_n, J_1, J_add, ej]
  simp only [J_0, hne, if_false, gd_t w.c40, gd_t hnm, ite_self]
  rfl
theorem h_add (h : hLs FI GR BR AN t m f) (hm : m ≤ 1000) (w : HWf C FR GR BR AN) (hk : ∀ k, k < m → ohKd (f k).1 < 17) (he : ohKd e.1 < 17) (hoe : hOld C e) :
    ∃ F2 G2 B2 N2 C2 c d, mJ2_add FI GR BR AN C t (some e) = some ((J 1, F2, G2, B2, N2, C2), (c, d)) ∧ c ≤ 1 ∧ d ≤ 2 * m + 12 ∧ hLs F2 G2 B2 N2 t (m + 1) (updF f m e) ∧ HAd C C2 t FI F2 GR G2 BR B2 AN N2 ∧ HWf C2 FR G2 B2 N2 := by
  obtain ⟨ht, hn, a, h1, h2, h3, h4, h5⟩ := h
  have hF2 : sA FI t.1 t.2 (uA (FI t.1 t.2) 0 (FI t.1 t.2 0 + J 1)) t.1 t.2 2 = J (m : Int) := by rw [sA_same, uA_ne _ _ (by decide), hn]
  have h1' : oD2 6 (some a) = some a := by
    unfold oD2
    rcases h3 with q | q
    · simp [q]
    · subst q; rfl
  by_cases ha : ohKd a.1 = 106
  · by_cases hc : m = AN a.1 a.2
    · -- full
      have eg := h_grow (F := sA FI t.1 t.2 (uA (FI t.1 t.2) 0 (FI t.1 t.2 0 + J 1))) hm hF2 h1 ha w hc.symm (fun k y q r => by rw [h5 k q] at r; cases r; exact hk k q)
      have ea := h_addAt (FI := FI) (GR := sA GR t.1 t.2 (uA (GR t.1 t.2) 1 (some (34, C 34)))) (BR := sA BR 34 (C 34) (va_cpy (BR a.1 a.2) (fun _ => none) 0 0 m)) (AN := sA AN 34 (C 34) (m + max 1 (m / 2))) (C := uA C 34 (C 34 + 1)) (t := t) (a := (34, C 34)) (m := m) (by omega) (show ohKd 34 = 106 by decide) (by show m < sA AN 34 (C 34) (m + max 1 (m / 2)) 34 (C 34); rw [sA_same]; omega) he rfl
      obtain ⟨r1, r2, r3⟩ := add_fin (s := 34) (N := m + max 1 (m / 2)) (g := va_cpy (BR a.1 a.2) (fun _ => none) 0 0 m) (f := f) (FI := FI) (m := m) ht (.inr rfl) w (by omega) (by omega) (fun k q => by unfold va_cpy; rw [if_pos (by omega)]; simpa using h5 k q) (fun k r q => by
        unfold va_cpy at q
        split at q
        · exact w.br _ _ _ _ (fun z => by rw [z] at ha; revert ha; decide) q
        · cases q) hoe
      refine ⟨_, _, _, _, _, 1, m + max 1 (m / 2), ?_, by omega, by omega, r1, r2, r3⟩
      unfold mJ2_add mJ2_add_2 oLet oCost
      dsimp only at ea
      rw [J_1]
      dsimp only
      rw [hF2, h1, h1', Option.bind_some, J_n, ← hc, if_pos rfl, eg, Option.bind_some, ea, sA_same, sA_sA]
      rfl
    · -- room
      have ea := h_addAt (FI := FI) (GR := GR) (BR := BR) (AN := AN) (C := C) (t := t) (a := a) (m := m) (by omega) ha (by omega) he rfl
      have hs := kd106 ha
      have hne : (J (m : Int) = J ((AN a.1 a.2 : Nat) : Int)) = False := by rw [jeq (by omega) (by omega) (by omega) (by omega)]; exact eq_false (by omega)
      refine ⟨adF FI t m, GR, sA BR a.1 a.2 (uA (BR a.1 a.2) m (some e)), AN, C, 0, 0, ?_, by omega, by omega, ⟨ht, ?_, a, h1, .inr ha, h3, by omega, fun k hk2 => ?_⟩, ⟨fun s i q => sA_ne _ _ q, fun s i q => rfl, fun b hb q => sA_ne _ _ (fun z => q (by rw [h1]; exact congrArg some (Prod.ext z.1.symm z.2.symm))), fun s q1 q2 => sA_site _ _ _ (by omega), fun _ _ => rfl, fun _ _ _ => rfl, fun _ => Nat.le_refl _, fun _ _ _ => rfl, .inl rfl⟩, ⟨w.fr, w.gr, fun s i k r n316 q => ?_, w.own, w.c40, w.c58, w.n40⟩⟩
      · unfold mJ2_add mJ2_add_2 oLet oCost
        rw [J_1]
        dsimp only
        rw [hF2, h1, h1', Option.bind_some, J_n, if_neg (by rw [hne]; exact id), ea]
        rfl
      · unfold adF; rw [sA_same, uA_same]
      · rw [sA_same]
        by_cases q : k = m
        · subst q; rw [uA_same]; simp [updF]
        · rw [uA_ne _ _ q, h5 k (by omega)]; simp [updF, q]
      · by_cases q2 : s = a.1 ∧ i = a.2
        · rw [q2.1, q2.2, sA_same] at q
          by_cases q3 : k = m
          · subst q3; rw [uA_same] at q; cases q; exact hoe
          · rw [uA_ne _ _ q3] at q; exact w.br _ _ _ _ (fun z => by rw [z] at ha; revert ha; decide) q
        · rw [sA_ne _ _ q2] at q; exact w.br _ _ _ _ n316 q
  · -- empty
    have ha2 : a = (40, 0) := by rcases h3 with q | q; exact absurd q ha; exact q
    subst ha2
    have hm0 : m = 0 := by have := w.n40; simp only [this] at h4; omega
    subst hm0
    have n40 := w.n40
    have hmx := h_max (a := 10) (b := 1) (by omega) (by omega) (by omega) (by omega)
    rw [show max (10 : Int) 1 = 10 by omega] at hmx
    have ea := h_addAt (FI := FI) (GR := sA GR t.1 t.2 (uA (GR t.1 t.2) 1 (some (33, C 33)))) (BR := sA BR 33 (C 33) (fun _ => none)) (AN := sA AN 33 (C 33) 10) (C := uA C 33 (C 33 + 1)) (t := t) (a := (33, C 33)) (m := 0) (by omega) (show ohKd 33 = 106 by decide) (by show 0 < sA AN 33 (C 33) 10 33 (C 33); rw [sA_same]; omega) he rfl
    obtain ⟨r1, r2, r3⟩ := add_fin (s := 33) (N := 10) (g := fun _ => none) (f := f) (FI := FI) (m := 0) ht (.inl rfl) w (by omega) (by omega) (fun k q => by omega) (fun k r q => by cases q) hoe
    refine ⟨_, _, _, _, _, 1, 10, ?_, by omega, by omega, r1, r2, r3⟩
    have eg : mJ2_grow (sA FI t.1 t.2 (uA (FI t.1 t.2) 0 (FI t.1 t.2 0 + J 1))) GR BR AN C t = some ((some (33, C 33), sA GR t.1 t.2 (uA (GR t.1 t.2) 1 (some (33, C 33))), sA BR 33 (C 33) (fun _ => none), sA AN 33 (C 33) 10, uA C 33 (C 33 + 1)), (1, 10)) := by
      have g2 : oNm (some ((40, 0) : Rf)) (some (40, 0)) := .inl rfl
      have g3 : ¬ J 10 < J 0 ∧ J 10 ≤ 100000 := by
        rw [J_lit, jlt (by omega) (by omega) (by omega) (by omega), jle (by omega) (by omega) (by omega) (by omega)]; omega
      unfold mJ2_grow mJ2_grow_2 oCost oLet
      rw [hF2, h1, h1', Option.bind_some]
      dsimp only
      rw [n40, J_n, J_0, J_1, J_add, if_neg (by rw [jlt (by omega) (by omega) (by omega) (by omega)]; omega), gd_t w.c40, gd_t g2, if_pos rfl, J_lit 10]
      have e01 : ((0 : Nat) : Int) + 1 = 1 := rfl
      rw [e01, hmx, Option.bind_some, gd_t g3, show (J 10).toNatClampNeg = 10 from jnn (k := 10) (by omega)]
      rfl
    unfold mJ2_add mJ2_add_2 oLet oCost
    rw [J_1]
    dsimp only
    rw [hF2, h1, h1', Option.bind_some]
    dsimp only
    rw [n40, J_n, if_pos rfl, eg]
    dsimp only at ea
    rw [Option.bind_some, ea, sA_same, sA_sA]
    rfl
end
end
