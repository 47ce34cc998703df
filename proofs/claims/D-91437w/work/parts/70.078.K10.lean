noncomputable section
set_option linter.unusedVariables false
set_option linter.unusedSimpArgs false
/-! PLAIN 73: the house is told: operas -/
/-- all that is made stands -/
def HKb (C C2 : OhC) (FI FI2 : OhI) (FR FR2 GR GR2 : OhQ) (AI AI2 : OhI) (BR BR2 : OhQ) (AN AN2 : OhN) : Prop :=
  (∀ a : Rf, hOld C a → FI2 a.1 a.2 = FI a.1 a.2) ∧
  (∀ a : Rf, hOld C a → FR2 a.1 a.2 = FR a.1 a.2) ∧
  (∀ a : Rf, hOld C a → GR2 a.1 a.2 = GR a.1 a.2) ∧
  (∀ a : Rf, hOld C a → AI2 a.1 a.2 = AI a.1 a.2) ∧
  (∀ a : Rf, hOld C a → BR2 a.1 a.2 = BR a.1 a.2) ∧
  (∀ s, s ≠ 33 → s ≠ 34 → BR2 s = BR s) ∧
  (∀ a : Rf, hOld C a → AN2 a.1 a.2 = AN a.1 a.2) ∧
  (∀ s, C s ≤ C2 s)
theorem HKb.mk {C C2 : OhC} {FI FI2 : OhI} {FR FR2 GR GR2 : OhQ} {AI AI2 : OhI} {BR BR2 : OhQ} {AN AN2 : OhN}
    (fi : ∀ a : Rf, hOld C a → FI2 a.1 a.2 = FI a.1 a.2)
    (fr : ∀ a : Rf, hOld C a → FR2 a.1 a.2 = FR a.1 a.2)
    (gr : ∀ a : Rf, hOld C a → GR2 a.1 a.2 = GR a.1 a.2)
    (ai : ∀ a : Rf, hOld C a → AI2 a.1 a.2 = AI a.1 a.2)
    (br : ∀ a : Rf, hOld C a → BR2 a.1 a.2 = BR a.1 a.2)
    (br0 : ∀ s, s ≠ 33 → s ≠ 34 → BR2 s = BR s)
    (an : ∀ a : Rf, hOld C a → AN2 a.1 a.2 = AN a.1 a.2)
    (cc : ∀ s, C s ≤ C2 s) :
    HKb C C2 FI FI2 FR FR2 GR GR2 AI AI2 BR BR2 AN AN2 := ⟨fi, fr, gr, ai, br, br0, an, cc⟩
theorem HKb.fi {C C2 : OhC} {FI FI2 : OhI} {FR FR2 GR GR2 : OhQ} {AI AI2 : OhI} {BR BR2 : OhQ} {AN AN2 : OhN} (h : HKb C C2 FI FI2 FR FR2 GR GR2 AI AI2 BR BR2 AN AN2) : ∀ a : Rf, hOld C a → FI2 a.1 a.2 = FI a.1 a.2 := h.1
theorem HKb.fr {C C2 : OhC} {FI FI2 : OhI} {FR FR2 GR GR2 : OhQ} {AI AI2 : OhI} {BR BR2 : OhQ} {AN AN2 : OhN} (h : HKb C C2 FI FI2 FR FR2 GR GR2 AI AI2 BR BR2 AN AN2) : ∀ a : Rf, hOld C a → FR2 a.1 a.2 = FR a.1 a.2 := h.2.1
theorem HKb.gr {C C2 : OhC} {FI FI2 : OhI} {FR FR2 GR GR2 : OhQ} {AI AI2 : OhI} {BR BR2 : OhQ} {AN AN2 : OhN} (h : HKb C C2 FI FI2 FR FR2 GR GR2 AI AI2 BR BR2 AN AN2) : ∀ a : Rf, hOld C a → GR2 a.1 a.2 = GR a.1 a.2 := h.2.2.1
theorem HKb.ai {C C2 : OhC} {FI FI2 : OhI} {FR FR2 GR GR2 : OhQ} {AI AI2 : OhI} {BR BR2 : OhQ} {AN AN2 : OhN} (h : HKb C C2 FI FI2 FR FR2 GR GR2 AI AI2 BR BR2 AN AN2) : ∀ a : Rf, hOld C a → AI2 a.1 a.2 = AI a.1 a.2 := h.2.2.2.1
theorem HKb.br {C C2 : OhC} {FI FI2 : OhI} {FR FR2 GR GR2 : OhQ} {AI AI2 : OhI} {BR BR2 : OhQ} {AN AN2 : OhN} (h : HKb C C2 FI FI2 FR FR2 GR GR2 AI AI2 BR BR2 AN AN2) : ∀ a : Rf, hOld C a → BR2 a.1 a.2 = BR a.1 a.2 := h.2.2.2.2.1
theorem HKb.br0 {C C2 : OhC} {FI FI2 : OhI} {FR FR2 GR GR2 : OhQ} {AI AI2 : OhI} {BR BR2 : OhQ} {AN AN2 : OhN} (h : HKb C C2 FI FI2 FR FR2 GR GR2 AI AI2 BR BR2 AN AN2) : ∀ s, s ≠ 33 → s ≠ 34 → BR2 s = BR s := h.2.2.2.2.2.1
theorem HKb.an {C C2 : OhC} {FI FI2 : OhI} {FR FR2 GR GR2 : OhQ} {AI AI2 : OhI} {BR BR2 : OhQ} {AN AN2 : OhN} (h : HKb C C2 FI FI2 FR FR2 GR GR2 AI AI2 BR BR2 AN AN2) : ∀ a : Rf, hOld C a → AN2 a.1 a.2 = AN a.1 a.2 := h.2.2.2.2.2.2.1
theorem HKb.cc {C C2 : OhC} {FI FI2 : OhI} {FR FR2 GR GR2 : OhQ} {AI AI2 : OhI} {BR BR2 : OhQ} {AN AN2 : OhN} (h : HKb C C2 FI FI2 FR FR2 GR GR2 AI AI2 BR BR2 AN AN2) : ∀ s, C s ≤ C2 s := h.2.2.2.2.2.2.2
theorem t6_new (C : OhC) : ¬ hOld C (6, C 6) := fun h => Nat.lt_irrefl _ (h ⟨by show 4 ≤ 6; omega, by show 6 ≤ 36; omega⟩)
theorem tN_new (C : OhC) {s : Nat} (h1 : 4 ≤ s) (h2 : s ≤ 36) : ¬ hOld C (s, C s) := fun h => Nat.lt_irrefl _ (h ⟨h1, h2⟩)
section
variable {C C1 C2 : OhC} {FI FI2 F3 F4 : OhI} {FR FR2 R3 GR GR2 G3 G4 : OhQ} {AI AI2 A3 : OhI} {AR BR BR2 B3 B4 : OhQ} {AN AN2 N3 N4 : OhN} {S : PSt} {Z : PZ} {n : Nat} {t : Rf}
theorem HKb.refl : HKb C C FI FI FR FR GR GR AI AI BR BR AN AN := ⟨fun _ _ => rfl, fun _ _ => rfl, fun _ _ => rfl, fun _ _ => rfl, fun _ _ => rfl, fun _ _ _ => rfl, fun _ _ => rfl, fun _ => Nat.le_refl _⟩
theorem HKb.trans (x : HKb C C1 FI F3 FR R3 GR G3 AI A3 BR B3 AN N3) (y : HKb C1 C2 F3 FI2 R3 FR2 G3 GR2 A3 AI2 B3 BR2 N3 AN2) : HKb C C2 FI FI2 FR FR2 GR GR2 AI AI2 BR BR2 AN AN2 :=
  have o : ∀ a : Rf, hOld C a → hOld C1 a := fun a h => hOld_mono h x.cc
  ⟨fun a h => (y.fi a (o a h)).trans (x.fi a h), fun a h => (y.fr a (o a h)).trans (x.fr a h), fun a h => (y.gr a (o a h)).trans (x.gr a h), fun a h => (y.ai a (o a h)).trans (x.ai a h), fun a h => (y.br a (o a h)).trans (x.br a h), fun s q1 q2 => (y.br0 s q1 q2).trans (x.br0 s q1 q2), fun a h => (y.an a (o a h)).trans (x.an a h), fun s => Nat.le_trans (x.cc s) (y.cc s)⟩
theorem HKb.ka (x : HKb C C2 FI FI2 FR FR2 GR GR2 AI AI2 BR BR2 AN AN2) : HKa [] [] C C2 (6, C 6) FI FI2 FR FR2 GR GR2 AI AI2 BR BR2 AN AN2 :=
  ⟨fun a h _ _ => x.fi a h, fun k _ => congrFun (x.fi (0, 0) (fun q => absurd q.1 (by decide))) k, x.fr, fun a h _ => x.gr a h, fun a h _ => x.ai a h, fun a h _ => x.br a h, x.br0, x.an, x.cc, show ohKd 6 = 17 by decide, fun y h _ q => t6_new C (q ▸ h)⟩
/-- garbage changes nothing -/
theorem HInv.garb (h : HInv S Z FI FR GR AI AR BR AN C) (x : HKb C C2 FI FI2 FR FR2 GR GR2 AI AI2 BR BR2 AN AN2) (w2 : HWf C2 FR2 GR2 BR2 AN2) : HInv S Z FI2 FR2 GR2 AI2 AR BR2 AN2 C2 := by
  have X := x.ka
  have K := X.kp (by simp)
  have f0 : ∀ k, FI2 0 0 k = FI 0 0 k := fun k => X.f0 k (by simp)
  exact h.rest X (by simp) (show 6 ≠ 315 by decide) w2 (h.toHSt.kp0 h.wf K (fun k _ => f0 k) (x.ai (307, 0) (old_base (by decide))) (x.ai (308, 0) (old_base (by decide))) (.inl (by show 6 < 309; decide))) (fun c hc => (h.cls c hc).kp h.wf K (h.caL.old h.wf hc)) h.cij (by rw [f0]; exact h.taped) (fun k hk => by rw [x.ai (300, 0) (old_base (by decide))]; exact h.tape k hk) (by rw [f0]; exact h.fault) (by rw [f0]; exact h.stamp) (by simp) (by simp) rfl rfl rfl rfl rfl rfl rfl rfl rfl (fun _ _ => ⟨rfl, rfl⟩) (fun _ he => ⟨he, rfl⟩)
theorem HKb.out (x : HKb C C2 FI FI2 FR FR2 GR GR2 AI AI2 BR BR2 AN AN2) : HOut FI FI2 FR FR2 AI AI2 AN AN2 := x.ka.out (by simp)
/-- a list that is new grows -/
theorem HKb.ad (x : HKb C C1 FI F3 FR R3 GR G3 AI A3 BR B3 AN N3) (y : HAd C1 C2 t F3 F4 G3 G4 B3 B4 N3 N4) (ht : ¬ hOld C t) (hb : ∀ a, G3 t.1 t.2 1 = some a → a.1 = 40 ∨ ¬ hOld C a) : HKb C C2 FI F4 FR R3 GR G4 AI A3 BR B4 AN N4 := by
  have o : ∀ a : Rf, hOld C a → hOld C1 a := fun a h => hOld_mono h x.cc
  have ne : ∀ a : Rf, hOld C a → ¬ (a.1 = t.1 ∧ a.2 = t.2) := fun a h q => ht (by have : a = t := Prod.ext q.1 q.2; rw [← this]; exact h)
  refine ⟨fun a h => (y.fi _ _ (ne a h)).trans (x.fi a h), x.fr, fun a h => (y.gr _ _ (ne a h)).trans (x.gr a h), x.ai, fun a h => ?_, fun s q1 q2 => (y.br0 s q1 q2).trans (x.br0 s q1 q2), fun a h => (y.an a (o a h)).trans (x.an a h), fun s => Nat.le_trans (x.cc s) (y.cc s)⟩
  refine Eq.trans ?_ (x.br a h)
  by_cases q : G3 t.1 t.2 1 = some a
  · rcases hb a q with q2 | q2
    · rw [y.br0 a.1 (by omega) (by omega)]
    · exact absurd h q2
  · exact y.br a (o a h) q
theorem HAd.nb (y : HAd C1 C2 t F3 F4 G3 G4 B3 B4 N3 N4) (hc : ∀ s, C s ≤ C1 s) (hb : ∀ a, G3 t.1 t.2 1 = some a → a.1 = 40 ∨ ¬ hOld C a) : ∀ a, G4 t.1 t.2 1 = some a → a.1 = 40 ∨ ¬ hOld C a := fun a q => by
  rcases y.gt with g | g
  · exact hb a (g ▸ q)
  · exact .inr fun z => g a q (hOld_mono z hc)
theorem HKa.mk2 {v : Int32} (x : HKb C C1 FI F3 FR R3 GR G3 AI A3 BR B3 AN N3) (y : HAd C1 C2 t F3 F4 G3 G4 B3 B4 N3 N4) (tk : ohKd t.1 = 17) (ht : 37 ≤ t.1) : HKa [6] [] C C2 t FI (stF F4 v) FR R3 GR G4 AI A3 BR B4 AN N4 := by
  have o : ∀ a : Rf, hOld C a → hOld C1 a := fun a h => hOld_mono h x.cc
  have ne : ∀ {a : Rf}, a ≠ t → ¬ (a.1 = t.1 ∧ a.2 = t.2) := fun h q => h (Prod.ext q.1 q.2)
  have ot : hOld C t := fun q => by omega
  refine ⟨fun a h1 h2 h3 => ?_, fun k hk => ?_, x.fr, fun a h1 h2 => (y.gr _ _ (ne h2)).trans (x.gr a h1), fun a h1 _ => x.ai a h1, fun a h1 h2 => (y.br a (o a h1) (by rw [x.gr t ot]; exact h2)).trans (x.br a h1), fun s q1 q2 => (y.br0 s q1 q2).trans (x.br0 s q1 q2), fun a h1 => (y.an a (o a h1)).trans (x.an a h1), fun s => Nat.le_trans (x.cc s) (y.cc s), tk, fun b h1 h2 q => by rw [q] at h2; omega⟩
  · have : stF F4 v a.1 a.2 = F4 a.1 a.2 := by
      unfold stF
      rw [sA_ne _ _ (fun q => h2 (Prod.ext q.1 q.2))]
    rw [this, y.fi _ _ (ne h3)]; exact x.fi a h1
  · rw [stF_k _ _ (by simpa using hk), y.fi 0 0 (fun q => by have := q.1; omega)]
    exact congrFun (x.fi (0, 0) (fun q => absurd q.1 (by decide))) k
/-- a new opera's fields -/
def opF (FI : OhI) (C : OhC) (t : Rf) (a b c d e : Int32) : OhI := sA (sA FI 6 (C 6) emF) t.1 t.2 (uA (uA (uA (uA (uA (FI t.1 t.2) 0 a) 1 b) 2 c) 4 d) 3 e)
def opR (FR : OhQ) (C : OhC) (t : Rf) : OhQ := sA FR t.1 t.2 (uA (uA (FR t.1 t.2) 5 (some (5, C 5))) 6 (some (6, C 6)))
def opC (C : OhC) : OhC := uA (uA C 5 (C 5 + 1)) 6 (C 6 + 1)
theorem h_init5 {a b c e : Int32} {d : Bool} (h40 : 0 < C 40) (ht : t.1 ≠ 6) : mX5_init FI FR GR AI AN C t a b c (bJ d) e = some ((opF FI C t a b c (bJ d) e, opR FR C t, sA GR 6 (C 6) emG, sA AI 5 (C 5) (fun _ => J 0), sA AN 5 (C 5) 4, opC C), (2, 7)) := by
  have g : bJ d = J 0 ∨ bJ d = J 1 := by
    cases d
    · exact .inl bJ_f
    · exact .inr bJ_t
  have e6 : uA C 5 (C 5 + 1) 6 = C 6 := uA_ne _ _ (by decide)
  have h1 : 0 < uA (uA C 5 (C 5 + 1)) 6 (uA C 5 (C 5 + 1) 6 + 1) 40 := by rw [uA_ne _ _ (by decide), uA_ne _ _ (by decide)]; exact h40
  have n4 : (J 4).toNatClampNeg = 4 := jnn (k := 4) (by omega)
  unfold mX5_init oLet oCost
  dsimp only
  rw [h_linit h1, Option.bind_some, e6, J_0, J_1, gd_t g]
  dsimp only
  simp only [sA_same, sA_sA, Option.map_some, J_lit, n4]
  have ns : ∀ (f : Nat → Int32), sA FI 6 (C 6) f t.1 t.2 = FI t.1 t.2 := fun f => sA_ne _ _ (fun q => ht q.1)
  simp only [ns]
  rfl
end
end
