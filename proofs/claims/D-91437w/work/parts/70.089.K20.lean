noncomputable section
set_option linter.unusedVariables false
set_option linter.unusedSimpArgs false
/-! PLAIN 83: nights laid (house), 2: a night is put in -/
def ZN (S : PSt) (Z : PZ) (na : Nat → Rf) : PZ := (Z.s_c (fun c => if c < S.nC then Z.c c else na (c - S.nC)))
def updN (na : Nat → Rf) (m : Nat) (a : Rf) : Nat → Rf := fun k => if k = m then a else na k
theorem ZN_o {S : PSt} {Z : PZ} {na : Nat → Rf} : (ZN S Z na).o = Z.o := rfl
theorem ZN_lo {S : PSt} {Z : PZ} {na : Nat → Rf} {c : Nat} (h : c < S.nC) : (ZN S Z na).c c = Z.c c := if_pos h
theorem ZN_hi {S : PSt} {Z : PZ} {na : Nat → Rf} {k : Nat} : (ZN S Z na).c (S.nC + k) = na k := by
  show (if S.nC + k < S.nC then Z.c (S.nC + k) else na (S.nC + k - S.nC)) = na k
  rw [if_neg (by omega), Nat.add_sub_cancel_left]
theorem ZN_up {S : PSt} {Z : PZ} {na : Nat → Rf} {m c : Nat} {a : Rf} (h : c < S.nC + m) : (ZN S Z (updN na m a)).c c = (ZN S Z na).c c := by
  show (if c < S.nC then Z.c c else updN na m a (c - S.nC)) = (if c < S.nC then Z.c c else na (c - S.nC))
  by_cases q : c < S.nC
  · rw [if_pos q, if_pos q]
  · rw [if_neg q, if_neg q]; unfold updN; rw [if_neg (by omega)]
/-- between two tries of the i-th night -/
def HLt (S : PSt) (Z : PZ) (w : Nat → Nat) (hour last : Int) (N : Nat) (d : Nat → Int) (na : Nat → Rf) (m t : Nat) (FI : OhI) (FR GR : OhQ) (AI : OhI) (AR BR : OhQ) (AN : OhN) (C : OhC) : Prop :=
  (HCore S Z FI FR GR AI BR AN) ∧
  (HTb (lt S w d hour m) (ZN S Z na) FI FR GR AI BR AN) ∧
  (HWf C FR GR BR AN) ∧
  (ohShH FR AR AN) ∧
  (HLn AN) ∧
  (HWg FI AI) ∧
  (∃ q, swA 324 q AI) ∧
  (FI 0 0 31 = J (N : Int)) ∧
  (FI 0 0 32 = J (t : Int)) ∧
  (FI 0 0 33 = J hour) ∧
  (FI 0 0 34 = J last) ∧
  (∀ k, k < N → AI 330 0 k = J (w k : Int)) ∧
  (∀ c r j, c < S.nC → r < 9 → j < 32 → bt (AI 428 c r) j = (tbl S S.today).wbit c r j) ∧
  (∀ k, k < m → BR 329 0 k = some (na k)) ∧
  (∀ k, k < m → hOld C (na k))
theorem HLt.mk {S : PSt} {Z : PZ} {w : Nat → Nat} {hour last : Int} {N : Nat} {d : Nat → Int} {na : Nat → Rf} {m t : Nat} {FI : OhI} {FR GR : OhQ} {AI : OhI} {AR BR : OhQ} {AN : OhN} {C : OhC}
    (core : HCore S Z FI FR GR AI BR AN)
    (tb : HTb (lt S w d hour m) (ZN S Z na) FI FR GR AI BR AN)
    (wf : HWf C FR GR BR AN)
    (sh : ohShH FR AR AN)
    (ln : HLn AN)
    (wg : HWg FI AI)
    (q324 : ∃ q, swA 324 q AI)
    (f31 : FI 0 0 31 = J (N : Int))
    (f32 : FI 0 0 32 = J (t : Int))
    (f33 : FI 0 0 33 = J hour)
    (f34 : FI 0 0 34 = J last)
    (wi : ∀ k, k < N → AI 330 0 k = J (w k : Int))
    (kept : ∀ c r j, c < S.nC → r < 9 → j < 32 → bt (AI 428 c r) j = (tbl S S.today).wbit c r j)
    (tried : ∀ k, k < m → BR 329 0 k = some (na k))
    (made : ∀ k, k < m → hOld C (na k)) :
    HLt S Z w hour last N d na m t FI FR GR AI AR BR AN C := ⟨core, tb, wf, sh, ln, wg, q324, f31, f32, f33, f34, wi, kept, tried, made⟩
theorem HLt.core {S : PSt} {Z : PZ} {w : Nat → Nat} {hour last : Int} {N : Nat} {d : Nat → Int} {na : Nat → Rf} {m t : Nat} {FI : OhI} {FR GR : OhQ} {AI : OhI} {AR BR : OhQ} {AN : OhN} {C : OhC} (h : HLt S Z w hour last N d na m t FI FR GR AI AR BR AN C) : HCore S Z FI FR GR AI BR AN := h.1
theorem HLt.tb {S : PSt} {Z : PZ} {w : Nat → Nat} {hour last : Int} {N : Nat} {d : Nat → Int} {na : Nat → Rf} {m t : Nat} {FI : OhI} {FR GR : OhQ} {AI : OhI} {AR BR : OhQ} {AN : OhN} {C : OhC} (h : HLt S Z w hour last N d na m t FI FR GR AI AR BR AN C) : HTb (lt S w d hour m) (ZN S Z na) FI FR GR AI BR AN := h.2.1
theorem HLt.wf {S : PSt} {Z : PZ} {w : Nat → Nat} {hour last : Int} {N : Nat} {d : Nat → Int} {na : Nat → Rf} {m t : Nat} {FI : OhI} {FR GR : OhQ} {AI : OhI} {AR BR : OhQ} {AN : OhN} {C : OhC} (h : HLt S Z w hour last N d na m t FI FR GR AI AR BR AN C) : HWf C FR GR BR AN := h.2.2.1
theorem HLt.sh {S : PSt} {Z : PZ} {w : Nat → Nat} {hour last : Int} {N : Nat} {d : Nat → Int} {na : Nat → Rf} {m t : Nat} {FI : OhI} {FR GR : OhQ} {AI : OhI} {AR BR : OhQ} {AN : OhN} {C : OhC} (h : HLt S Z w hour last N d na m t FI FR GR AI AR BR AN C) : ohShH FR AR AN := h.2.2.2.1
theorem HLt.ln {S : PSt} {Z : PZ} {w : Nat → Nat} {hour last : Int} {N : Nat} {d : Nat → Int} {na : Nat → Rf} {m t : Nat} {FI : OhI} {FR GR : OhQ} {AI : OhI} {AR BR : OhQ} {AN : OhN} {C : OhC} (h : HLt S Z w hour last N d na m t FI FR GR AI AR BR AN C) : HLn AN := h.2.2.2.2.1
theorem HLt.wg {S : PSt} {Z : PZ} {w : Nat → Nat} {hour last : Int} {N : Nat} {d : Nat → Int} {na : Nat → Rf} {m t : Nat} {FI : OhI} {FR GR : OhQ} {AI : OhI} {AR BR : OhQ} {AN : OhN} {C : OhC} (h : HLt S Z w hour last N d na m t FI FR GR AI AR BR AN C) : HWg FI AI := h.2.2.2.2.2.1
theorem HLt.q324 {S : PSt} {Z : PZ} {w : Nat → Nat} {hour last : Int} {N : Nat} {d : Nat → Int} {na : Nat → Rf} {m t : Nat} {FI : OhI} {FR GR : OhQ} {AI : OhI} {AR BR : OhQ} {AN : OhN} {C : OhC} (h : HLt S Z w hour last N d na m t FI FR GR AI AR BR AN C) : ∃ q, swA 324 q AI := h.2.2.2.2.2.2.1
theorem HLt.f31 {S : PSt} {Z : PZ} {w : Nat → Nat} {hour last : Int} {N : Nat} {d : Nat → Int} {na : Nat → Rf} {m t : Nat} {FI : OhI} {FR GR : OhQ} {AI : OhI} {AR BR : OhQ} {AN : OhN} {C : OhC} (h : HLt S Z w hour last N d na m t FI FR GR AI AR BR AN C) : FI 0 0 31 = J (N : Int) := h.2.2.2.2.2.2.2.1
theorem HLt.f32 {S : PSt} {Z : PZ} {w : Nat → Nat} {hour last : Int} {N : Nat} {d : Nat → Int} {na : Nat → Rf} {m t : Nat} {FI : OhI} {FR GR : OhQ} {AI : OhI} {AR BR : OhQ} {AN : OhN} {C : OhC} (h : HLt S Z w hour last N d na m t FI FR GR AI AR BR AN C) : FI 0 0 32 = J (t : Int) := h.2.2.2.2.2.2.2.2.1
theorem HLt.f33 {S : PSt} {Z : PZ} {w : Nat → Nat} {hour last : Int} {N : Nat} {d : Nat → Int} {na : Nat → Rf} {m t : Nat} {FI : OhI} {FR GR : OhQ} {AI : OhI} {AR BR : OhQ} {AN : OhN} {C : OhC} (h : HLt S Z w hour last N d na m t FI FR GR AI AR BR AN C) : FI 0 0 33 = J hour := h.2.2.2.2.2.2.2.2.2.1
theorem HLt.f34 {S : PSt} {Z : PZ} {w : Nat → Nat} {hour last : Int} {N : Nat} {d : Nat → Int} {na : Nat → Rf} {m t : Nat} {FI : OhI} {FR GR : OhQ} {AI : OhI} {AR BR : OhQ} {AN : OhN} {C : OhC} (h : HLt S Z w hour last N d na m t FI FR GR AI AR BR AN C) : FI 0 0 34 = J last := h.2.2.2.2.2.2.2.2.2.2.1
theorem HLt.wi {S : PSt} {Z : PZ} {w : Nat → Nat} {hour last : Int} {N : Nat} {d : Nat → Int} {na : Nat → Rf} {m t : Nat} {FI : OhI} {FR GR : OhQ} {AI : OhI} {AR BR : OhQ} {AN : OhN} {C : OhC} (h : HLt S Z w hour last N d na m t FI FR GR AI AR BR AN C) : ∀ k, k < N → AI 330 0 k = J (w k : Int) := h.2.2.2.2.2.2.2.2.2.2.2.1
theorem HLt.kept {S : PSt} {Z : PZ} {w : Nat → Nat} {hour last : Int} {N : Nat} {d : Nat → Int} {na : Nat → Rf} {m t : Nat} {FI : OhI} {FR GR : OhQ} {AI : OhI} {AR BR : OhQ} {AN : OhN} {C : OhC} (h : HLt S Z w hour last N d na m t FI FR GR AI AR BR AN C) : ∀ c r j, c < S.nC → r < 9 → j < 32 → bt (AI 428 c r) j = (tbl S S.today).wbit c r j := h.2.2.2.2.2.2.2.2.2.2.2.2.1
theorem HLt.tried {S : PSt} {Z : PZ} {w : Nat → Nat} {hour last : Int} {N : Nat} {d : Nat → Int} {na : Nat → Rf} {m t : Nat} {FI : OhI} {FR GR : OhQ} {AI : OhI} {AR BR : OhQ} {AN : OhN} {C : OhC} (h : HLt S Z w hour last N d na m t FI FR GR AI AR BR AN C) : ∀ k, k < m → BR 329 0 k = some (na k) := h.2.2.2.2.2.2.2.2.2.2.2.2.2.1
theorem HLt.made {S : PSt} {Z : PZ} {w : Nat → Nat} {hour last : Int} {N : Nat} {d : Nat → Int} {na : Nat → Rf} {m t : Nat} {FI : OhI} {FR GR : OhQ} {AI : OhI} {AR BR : OhQ} {AN : OhN} {C : OhC} (h : HLt S Z w hour last N d na m t FI FR GR AI AR BR AN C) : ∀ k, k < m → hOld C (na k) := h.2.2.2.2.2.2.2.2.2.2.2.2.2.2
def lySc : List Nat := [17, 18, 31, 32, 33, 34]
def lySA : List Nat := [323, 324, 325, 330, 419, 420, 421, 422, 428]
/-- what laying leaves alone -/
def HLf (C C2 : OhC) (FI FI2 : OhI) (FR FR2 : OhQ) (AI AI2 : OhI) (BR BR2 : OhQ) : Prop :=
  (∀ a : Rf, hOld C a → a ≠ (0, 0) → FI2 a.1 a.2 = FI a.1 a.2) ∧
  (∀ k, k ∉ lySc → FI2 0 0 k = FI 0 0 k) ∧
  (∀ a : Rf, hOld C a → FR2 a.1 a.2 = FR a.1 a.2) ∧
  (eqx lySA AI AI2) ∧
  (∀ s, s ≠ 316 → s ≠ 329 → BR2 s = BR s) ∧
  (∀ s, C s ≤ C2 s)
theorem HLf.mk {C C2 : OhC} {FI FI2 : OhI} {FR FR2 : OhQ} {AI AI2 : OhI} {BR BR2 : OhQ}
    (fi : ∀ a : Rf, hOld C a → a ≠ (0, 0) → FI2 a.1 a.2 = FI a.1 a.2)
    (f0 : ∀ k, k ∉ lySc → FI2 0 0 k = FI 0 0 k)
    (fr : ∀ a : Rf, hOld C a → FR2 a.1 a.2 = FR a.1 a.2)
    (ai : eqx lySA AI AI2)
    (br : ∀ s, s ≠ 316 → s ≠ 329 → BR2 s = BR s)
    (cc : ∀ s, C s ≤ C2 s) :
    HLf C C2 FI FI2 FR FR2 AI AI2 BR BR2 := ⟨fi, f0, fr, ai, br, cc⟩
theorem HLf.fi {C C2 : OhC} {FI FI2 : OhI} {FR FR2 : OhQ} {AI AI2 : OhI} {BR BR2 : OhQ} (h : HLf C C2 FI FI2 FR FR2 AI AI2 BR BR2) : ∀ a : Rf, hOld C a → a ≠ (0, 0) → FI2 a.1 a.2 = FI a.1 a.2 := h.1
theorem HLf.f0 {C C2 : OhC} {FI FI2 : OhI} {FR FR2 : OhQ} {AI AI2 : OhI} {BR BR2 : OhQ} (h : HLf C C2 FI FI2 FR FR2 AI AI2 BR BR2) : ∀ k, k ∉ lySc → FI2 0 0 k = FI 0 0 k := h.2.1
theorem HLf.fr {C C2 : OhC} {FI FI2 : OhI} {FR FR2 : OhQ} {AI AI2 : OhI} {BR BR2 : OhQ} (h : HLf C C2 FI FI2 FR FR2 AI AI2 BR BR2) : ∀ a : Rf, hOld C a → FR2 a.1 a.2 = FR a.1 a.2 := h.2.2.1
theorem HLf.ai {C C2 : OhC} {FI FI2 : OhI} {FR FR2 : OhQ} {AI AI2 : OhI} {BR BR2 : OhQ} (h : HLf C C2 FI FI2 FR FR2 AI AI2 BR BR2) : eqx lySA AI AI2 := h.2.2.2.1
theorem HLf.br {C C2 : OhC} {FI FI2 : OhI} {FR FR2 : OhQ} {AI AI2 : OhI} {BR BR2 : OhQ} (h : HLf C C2 FI FI2 FR FR2 AI AI2 BR BR2) : ∀ s, s ≠ 316 → s ≠ 329 → BR2 s = BR s := h.2.2.2.2.1
theorem HLf.cc {C C2 : OhC} {FI FI2 : OhI} {FR FR2 : OhQ} {AI AI2 : OhI} {BR BR2 : OhQ} (h : HLf C C2 FI FI2 FR FR2 AI AI2 BR BR2) : ∀ s, C s ≤ C2 s := h.2.2.2.2.2
section
variable {S : PSt} {Z : PZ} {w : Nat → Nat} {hour last : Int} {N : Nat} {d : Nat → Int} {na : Nat → Rf} {m t n : Nat} {C C2 C3 : OhC} {FI FI2 FI3 : OhI} {FR FR2 FR3 GR : OhQ} {AI AI2 AI3 : OhI} {AR BR BR2 BR3 : OhQ} {AN : OhN}
theorem HLf.refl : HLf C C FI FI FR FR AI AI BR BR := HLf.mk (fun _ _ _ => rfl) (fun _ _ => rfl) (fun _ _ => rfl) eqx_refl (fun _ _ _ => rfl) (fun _ => Nat.le_refl _)
theorem HLf.trans (x : HLf C C2 FI FI2 FR FR2 AI AI2 BR BR2) (y : HLf C2 C3 FI2 FI3 FR2 FR3 AI2 AI3 BR2 BR3) : HLf C C3 FI FI3 FR FR3 AI AI3 BR BR3 :=
  HLf.mk (fun a h q => (y.fi a (hOld_mono h x.cc) q).trans (x.fi a h q)) (fun k h => (y.f0 k h).trans (x.f0 k h)) (fun a h => (y.fr a (hOld_mono h x.cc)).trans (x.fr a h)) (eqx_trans x.ai y.ai) (fun s q1 q2 => (y.br s q1 q2).trans (x.br s q1 q2)) (fun s => Nat.le_trans (x.cc s) (y.cc s))
theorem HLf.kp (x : HLf C C2 FI FI2 FR FR2 AI AI2 BR BR2) : HKp C (6, C 6) FI FI2 FR FR2 GR GR AI AI2 BR BR2 AN AN :=
  HKp.mk (fun a h1 h2 _ => x.fi a h1 (by rintro rfl; exact absurd h2 (by decide))) x.fr (fun _ _ _ _ => rfl) (fun a _ h2 => by rw [x.ai a.1 (by rw [h2]; decide)]) (fun a _ h2 _ => by rw [x.br a.1 (by rintro q; rw [q] at h2; exact h2 (by decide)) (by rintro q; rw [q] at h2; exact h2 (by decide))]) (fun _ _ => rfl) (show ohKd 6 = 17 by decide) (fun y h _ q => t6_new C (q ▸ h))
theorem HLf.st (x : HLf C C2 FI FI2 FR FR2 AI AI2 BR BR2) (h : HSt S Z FI FR GR AI BR AN) (wf : HWf C FR GR BR AN) : HSt S Z FI2 FR2 GR AI2 BR2 AN :=
  h.kp0 wf x.kp (fun k hk => x.f0 k (by rintro q; revert hk; revert q; unfold lySc; simp only [List.mem_cons, List.not_mem_nil, or_false]; omega)) (by rw [x.ai 307 (by decide)]) (by rw [x.ai 308 (by decide)]) (.inl (by show 6 < 309; decide))
theorem HLf.core (x : HLf C C2 FI FI2 FR FR2 AI AI2 BR BR2) (h : HCore S Z FI FR GR AI BR AN) (wf : HWf C FR GR BR AN) : HCore S Z FI2 FR2 GR AI2 BR2 AN :=
  HCore.mk (x.st h.toHSt wf) (fun c hc => (h.cls c hc).kp (C := C) (t := (6, C 6)) (GR := GR) (GR2 := GR) (AI := AI) (AI2 := AI2) (BR := BR) (BR2 := BR2) (AN := AN) (AN2 := AN) wf x.kp (h.caL.old wf hc)) h.cij
theorem HLf.sh (x : HLf C C2 FI FI2 FR FR2 AI AI2 BR BR2) (h : ohShH FR AR AN) : ohShH FR2 AR AN := by
  obtain ⟨h1, h2, h3, h4, h5, h6⟩ := h
  exact ⟨fun k hk => by rw [x.fr (0, 0) (fun q => absurd q.1 (by decide))]; exact h1 k hk, h2, h3, by rw [x.fr (315, 0) (old_base (by decide))]; exact h4, h5, h6⟩
theorem HLf.wg (x : HLf C C2 FI FI2 FR FR2 AI AI2 BR BR2) (h : HWg FI AI) : HWg FI2 AI2 :=
  HWg.mk (by rw [x.fi (315, 0) (old_base (by decide)) (by decide)]; exact h.many) (fun k hk => by rw [x.ai 61 (by decide)]; exact h.on k hk) (fun k i hk hi => by rw [x.ai 63 (by decide)]; exact h.nx k i hk hi)
theorem HSt.zc {c' : Nat → Rf} (h : HSt S Z FI FR GR AI BR AN) (e : ∀ c, c < S.nC → c' c = Z.c c) : HSt S (Z.s_c (c')) FI FR GR AI BR AN := by
  refine HSt.mk h.daily h.weekly h.today h.one h.other h.opL h.op h.sgL h.sg ?_ h.ptL h.pt h.ilL h.il h.leL h.le h.oinj
  obtain ⟨h0, h1, a, h2, h3, h6, h4, h5⟩ := h.caL
  exact ⟨h0, h1, a, h2, h3, h6, h4, fun k hk => by rw [h5 k hk]; exact congrArg some (e k hk).symm⟩
/-- the roles of a new night, like the first call's -/
theorem h_likeL (hS : PStOk S) (hn : 10000 ≤ n) (sh : ohShH FR AR AN) {o : Nat} (ho : o < S.nO) (hm : m < 6) {a : Rf} (ha : ohKd a.1 = 14) (b329 : BR 329 0 m = some a) (er : mX15_roles FI FR a = some (J ((S.op o).nr : Int))) (c66 : S.nC + m < 66) (num : FI a.1 a.2 0 = J ((S.nC + m : Nat) : Int)) {cA : Nat → Nat → Int}
    (hcl : ∀ c, c < S.nC → ohKd (Z.c c).1 = 14 ∧ FI (Z.c c).1 (Z.c c).2 0 = J (c : Int)) (hc : ∀ c r, c < S.nC → r < 8 → AI 419 c r = J (cA c r)) (h0 : ∀ r, r < 8 → AI 419 (S.nC + m) r = J (-1)) {x5 : Nat} :
    wk (lpK (fun v : Int32 × OhI => mX1_putIn_b67 n FI FR GR v.2 AR BR AN C (J (m : Int)) ((S.fst o S.nC).map Z.c) v.1) n (J 0, AI)) 0 0 (fun A => eqx [419] AI A ∧ (∀ c, c ≠ S.nC + m → A 419 c = AI 419 c) ∧ ∀ r, r < 8 → A 419 (S.nC + m) r = J (if r < (S.op o).nr then (match S.fst o S.nC with | none => -1 | some f => cA f r) else -1)) := by
  have nr := (hS.op o ho).nr
  have eo : oD 14 (BR 329 0 m) = some a := by rw [b329]; exact oD_of ha
  cases hf : S.fst o S.nC with
  | none =>
    refine wk_mono (wk_for 0 0 0 (fun k a => a = (J 0, AI)) ?_ (k0 := 0) rfl (by omega) (by omega)) (by omega) (by omega) (fun _ h => h)
    rintro k b hk rfl
    dsimp only
    unfold mX1_putIn_b67
    ((repeat' (first | ((with_reducible apply wk_let); try dsimp only) | ((with_reducible apply wk_gdJ); (focus (first | ((simp (disch := omega) only [J_lit, J_add, J_sub, J_mul, J_neg, J_n, jle, jlt, jeq, jnn, jnat, Int.toNat_natCast, bJ_0, bJ_1, bft, gd_T, nar_J, nar_0, nar_1, if_true, if_false, Option.bind_some, gd_t, eo, er, Option.map_none, eq_self]); rfl) | rfl)); (focus (first | exact True.intro | assumption | (first | exact vp_J (by omega) (by omega) (by omega) | omega)))) | ((with_reducible apply wk_ifJT); (focus (first | ((simp (disch := omega) only [J_lit, J_add, J_sub, J_mul, J_neg, J_n, jle, jlt, jeq, jnn, jnat, Int.toNat_natCast, bJ_0, bJ_1, bft, gd_T, nar_J, nar_0, nar_1, if_true, if_false, Option.bind_some, gd_t, decide_eq_false_iff_not, decide_eq_true_eq, eo, er, Option.map_none, eq_self]); rfl) | rfl)); (focus (first | exact True.intro | omega))) | ((with_reducible apply wk_ifJF); (focus (first | ((simp (disch := omega) only [J_lit, J_add, J_sub, J_mul, J_neg, J_n, jle, jlt, jeq, jnn, jnat, Int.toNat_natCast, bJ_0, bJ_1, bft, gd_T, nar_J, nar_0, nar_1, if_true, if_false, Option.bind_some, gd_t, decide_eq_false_iff_not, decide_eq_true_eq, eo, er, Option.map_none, eq_self]); rfl) | rfl)); (focus (first | exact not_false | omega))) | ((with_reducible apply wk_ifJ); (focus (first | ((simp (disch := omega) only [J_lit, J_add, J_sub, J_mul, J_neg, J_n, jle, jlt, jeq, jnn, jnat, Int.toNat_natCast, bJ_0, bJ_1, bft, gd_T, nar_J, nar_0, nar_1, if_true, if_false, Option.bind_some, gd_t, decide_eq_false_iff_not, decide_eq_true_eq, eo, er, Option.map_none, eq_self]); rfl) | rfl)); all_goals intro _) | (with_reducible apply wk_some0) | ((with_reducible apply wk_eli); try dsimp only) | ((with_reducible apply wk_elr); try dsimp only) | ((with_reducible apply wk_costS); (focus ((try dsimp only); omega)); (focus ((try dsimp only); omega)); try dsimp only) | ((with_reducible apply wk_bindE); (focus ((simp (disch := omega) only [J_lit, J_add, J_sub, J_mul, J_neg, J_n, jle, jlt, jeq, jnn, jnat, Int.toNat_natCast, bJ_0, bJ_1, bft, gd_T, nar_J, nar_0, nar_1, if_true, if_false, Option.bind_some, gd_t, eo, er, Option.map_none, eq_self]); rfl)); try dsimp only) | (with_reducible apply wk_bind) | (first | ((with_reducible apply wp_let); try dsimp only) | ((with_reducible apply wp_gdJ); (focus (first | ((simp (disch := omega) only [J_lit, J_add, J_sub, J_mul, J_neg, J_n, jle, jlt, jeq, jnn, jnat, Int.toNat_natCast, bJ_0, bJ_1, bft, gd_T, nar_J, nar_0, nar_1, if_true, if_false, Option.bind_some, gd_t, eo, er, Option.map_none, eq_self]); rfl) | rfl)); (focus (first | exact True.intro | (first | exact vp_J (by omega) (by omega) (by omega) | omega)))) | ((with_reducible apply wp_ifJT); (focus (first | ((simp (disch := omega) only [J_lit, J_add, J_sub, J_mul, J_neg, J_n, jle, jlt, jeq, jnn, jnat, Int.toNat_natCast, bJ_0, bJ_1, bft, gd_T, nar_J, nar_0, nar_1, if_true, if_false, Option.bind_some, gd_t, decide_eq_false_iff_not, decide_eq_true_eq, eo, er, Option.map_none, eq_self]); rfl) | rfl)); (focus (first | exact True.intro | omega))) | ((with_reducible apply wp_ifJF); (focus (first | ((simp (disch := omega) only [J_lit, J_add, J_sub, J_mul, J_neg, J_n, jle, jlt, jeq, jnn, jnat, Int.toNat_natCast, bJ_0, bJ_1, bft, gd_T, nar_J, nar_0, nar_1, if_true, if_false, Option.bind_some, gd_t, decide_eq_false_iff_not, decide_eq_true_eq, eo, er, Option.map_none, eq_self]); rfl) | rfl)); (focus (first | exact not_false | omega))) | ((with_reducible apply wp_ifJ); (focus (first | ((simp (disch := omega) only [J_lit, J_add, J_sub, J_mul, J_neg, J_n, jle, jlt, jeq, jnn, jnat, Int.toNat_natCast, bJ_0, bJ_1, bft, gd_T, nar_J, nar_0, nar_1, if_true, if_false, Option.bind_some, gd_t, decide_eq_false_iff_not, decide_eq_true_eq, eo, er, Option.map_none, eq_self]); rfl) | rfl)); all_goals intro _) | (with_reducible apply wp_some) | ((with_reducible apply wp_eli); try dsimp only) | ((with_reducible apply wp_elr); try dsimp only) | ((with_reducible apply wp_bindE); (focus ((simp (disch := omega) only [J_lit, J_add, J_sub, J_mul, J_neg, J_n, jle, jlt, jeq, jnn, jnat, Int.toNat_natCast, bJ_0, bJ_1, bft, gd_T, nar_J, nar_0, nar_1, if_true, if_false, Option.bind_some, gd_t, eo, er, Option.map_none, eq_self]); rfl)); try dsimp only) | (with_reducible apply wp_bind)))); all_goals (try (simp (disch := omega) only [J_lit, J_add, J_sub, J_mul, J_neg, J_n, jle, jlt, jeq, jnn, jnat, Int.toNat_natCast, bJ_0, bJ_1, bft, gd_T, nar_J, nar_0, nar_1, if_true, if_false, Option.bind_some, gd_t, eo, er, Option.map_none, eq_self])))
    refine ⟨eqx_refl, fun _ _ => rfl, fun r hr => ?_⟩
    rw [h0 r hr]; exact congrArg J (by split <;> rfl)
  | some f =>
    obtain ⟨hf1, hf2⟩ := fst_lt hf
    obtain ⟨g1, g2⟩ := hcl f hf1
    have sn : (some (Z.c f) = none) = False := by simp
    refine wk_mono (wk_for (S.op o).nr 0 0 (fun k b => ∃ A, b = (J (k : Int), A) ∧ eqx [419] AI A ∧ (∀ c, c ≠ S.nC + m → A 419 c = AI 419 c) ∧ ∀ r, r < 8 → A 419 (S.nC + m) r = J (if r < k then cA f r else -1)) ?_ (k0 := 0) ⟨AI, rfl, eqx_refl, fun _ _ => rfl, fun r hr => by rw [if_neg (by omega)]; exact h0 r hr⟩ (by omega) (by omega)) (by omega) (by omega) (fun _ h => h)
    rintro k b hk ⟨A, rfl, x, x1, x2⟩
    dsimp only
    unfold mX1_putIn_b67
    by_cases e : k = (S.op o).nr
    · subst e
      ((repeat' (first | ((with_reducible apply wk_let); try dsimp only) | ((with_reducible apply wk_gdJ); (focus (first | ((simp (disch := omega) only [J_lit, J_add, J_sub, J_mul, J_neg, J_n, jle, jlt, jeq, jnn, jnat, Int.toNat_natCast, bJ_0, bJ_1, bft, gd_T, nar_J, nar_0, nar_1, if_true, if_false, Option.bind_some, gd_t, eo, er, Option.map_some, sn]); rfl) | rfl)); (focus (first | exact True.intro | assumption | (first | exact vp_J (by omega) (by omega) (by omega) | omega)))) | ((with_reducible apply wk_ifJT); (focus (first | ((simp (disch := omega) only [J_lit, J_add, J_sub, J_mul, J_neg, J_n, jle, jlt, jeq, jnn, jnat, Int.toNat_natCast, bJ_0, bJ_1, bft, gd_T, nar_J, nar_0, nar_1, if_true, if_false, Option.bind_some, gd_t, decide_eq_false_iff_not, decide_eq_true_eq, eo, er, Option.map_some, sn]); rfl) | rfl)); (focus (first | exact True.intro | omega))) | ((with_reducible apply wk_ifJF); (focus (first | ((simp (disch := omega) only [J_lit, J_add, J_sub, J_mul, J_neg, J_n, jle, jlt, jeq, jnn, jnat, Int.toNat_natCast, bJ_0, bJ_1, bft, gd_T, nar_J, nar_0, nar_1, if_true, if_false, Option.bind_some, gd_t, decide_eq_false_iff_not, decide_eq_true_eq, eo, er, Option.map_some, sn]); rfl) | rfl)); (focus (first | exact not_false | omega))) | ((with_reducible apply wk_ifJ); (focus (first | ((simp (disch := omega) only [J_lit, J_add, J_sub, J_mul, J_neg, J_n, jle, jlt, jeq, jnn, jnat, Int.toNat_natCast, bJ_0, bJ_1, bft, gd_T, nar_J, nar_0, nar_1, if_true, if_false, Option.bind_some, gd_t, decide_eq_false_iff_not, decide_eq_true_eq, eo, er, Option.map_some, sn]); rfl) | rfl)); all_goals intro _) | (with_reducible apply wk_some0) | ((with_reducible apply wk_eli); try dsimp only) | ((with_reducible apply wk_elr); try dsimp only) | ((with_reducible apply wk_costS); (focus ((try dsimp only); omega)); (focus ((try dsimp only); omega)); try dsimp only) | ((with_reducible apply wk_bindE); (focus ((simp (disch := omega) only [J_lit, J_add, J_sub, J_mul, J_neg, J_n, jle, jlt, jeq, jnn, jnat, Int.toNat_natCast, bJ_0, bJ_1, bft, gd_T, nar_J, nar_0, nar_1, if_true, if_false, Option.bind_some, gd_t, eo, er, Option.map_some, sn]); rfl)); try dsimp only) | (with_reducible apply wk_bind) | (first | ((with_reducible apply wp_let); try dsimp only) | ((with_reducible apply wp_gdJ); (focus (first | ((simp (disch := omega) only [J_lit, J_add, J_sub, J_mul, J_neg, J_n, jle, jlt, jeq, jnn, jnat, Int.toNat_natCast, bJ_0, bJ_1, bft, gd_T, nar_J, nar_0, nar_1, if_true, if_false, Option.bind_some, gd_t, eo, er, Option.map_some, sn]); rfl) | rfl)); (focus (first | exact True.intro | (first | exact vp_J (by omega) (by omega) (by omega) | omega)))) | ((with_reducible apply wp_ifJT); (focus (first | ((simp (disch := omega) only [J_lit, J_add, J_sub, J_mul, J_neg, J_n, jle, jlt, jeq, jnn, jnat, Int.toNat_natCast, bJ_0, bJ_1, bft, gd_T, nar_J, nar_0, nar_1, if_true, if_false, Option.bind_some, gd_t, decide_eq_false_iff_not, decide_eq_true_eq, eo, er, Option.map_some, sn]); rfl) | rfl)); (focus (first | exact True.intro | omega))) | ((with_reducible apply wp_ifJF); (focus (first | ((simp (disch := omega) only [J_lit, J_add, J_sub, J_mul, J_neg, J_n, jle, jlt, jeq, jnn, jnat, Int.toNat_natCast, bJ_0, bJ_1, bft, gd_T, nar_J, nar_0, nar_1, if_true, if_false, Option.bind_some, gd_t, decide_eq_false_iff_not, decide_eq_true_eq, eo, er, Option.map_some, sn]); rfl) | rfl)); (focus (first | exact not_false | omega))) | ((with_reducible apply wp_ifJ); (focus (first | ((simp (disch := omega) only [J_lit, J_add, J_sub, J_mul, J_neg, J_n, jle, jlt, jeq, jnn, jnat, Int.toNat_natCast, bJ_0, bJ_1, bft, gd_T, nar_J, nar_0, nar_1, if_true, if_false, Option.bind_some, gd_t, decide_eq_false_iff_not, decide_eq_true_eq, eo, er, Option.map_some, sn]); rfl) | rfl)); all_goals intro _) | (with_reducible apply wp_some) | ((with_reducible apply wp_eli); try dsimp only) | ((with_reducible apply wp_elr); try dsimp only) | ((with_reducible apply wp_bindE); (focus ((simp (disch := omega) only [J_lit, J_add, J_sub, J_mul, J_neg, J_n, jle, jlt, jeq, jnn, jnat, Int.toNat_natCast, bJ_0, bJ_1, bft, gd_T, nar_J, nar_0, nar_1, if_true, if_false, Option.bind_some, gd_t, eo, er, Option.map_some, sn]); rfl)); try dsimp only) | (with_reducible apply wp_bind)))); all_goals (try (simp (disch := omega) only [J_lit, J_add, J_sub, J_mul, J_neg, J_n, jle, jlt, jeq, jnn, jnat, Int.toNat_natCast, bJ_0, bJ_1, bft, gd_T, nar_J, nar_0, nar_1, if_true, if_false, Option.bind_some, gd_t, eo, er, Option.map_some, sn])))
      exact ⟨x, x1, x2⟩
    · have e9 : A 419 f k = J (cA f k) := by rw [x1 f (by omega)]; exact hc f k hf1 (by omega)
      ((repeat' (first | ((with_reducible apply wk_let); try dsimp only) | ((with_reducible apply wk_gdJ); (focus (first | ((simp (disch := omega) only [J_lit, J_add, J_sub, J_mul, J_neg, J_n, jle, jlt, jeq, jnn, jnat, Int.toNat_natCast, bJ_0, bJ_1, bft, gd_T, nar_J, nar_0, nar_1, if_true, if_false, Option.bind_some, gd_t, eo, er, Option.map_some, sn, num, oD_of g1, g2, e9]); rfl) | rfl)); (focus (first | exact True.intro | assumption | (first | exact vp_J (by omega) (by omega) (by omega) | omega)))) | ((with_reducible apply wk_ifJT); (focus (first | ((simp (disch := omega) only [J_lit, J_add, J_sub, J_mul, J_neg, J_n, jle, jlt, jeq, jnn, jnat, Int.toNat_natCast, bJ_0, bJ_1, bft, gd_T, nar_J, nar_0, nar_1, if_true, if_false, Option.bind_some, gd_t, decide_eq_false_iff_not, decide_eq_true_eq, eo, er, Option.map_some, sn, num, oD_of g1, g2, e9]); rfl) | rfl)); (focus (first | exact True.intro | omega))) | ((with_reducible apply wk_ifJF); (focus (first | ((simp (disch := omega) only [J_lit, J_add, J_sub, J_mul, J_neg, J_n, jle, jlt, jeq, jnn, jnat, Int.toNat_natCast, bJ_0, bJ_1, bft, gd_T, nar_J, nar_0, nar_1, if_true, if_false, Option.bind_some, gd_t, decide_eq_false_iff_not, decide_eq_true_eq, eo, er, Option.map_some, sn, num, oD_of g1, g2, e9]); rfl) | rfl)); (focus (first | exact not_false | omega))) | ((with_reducible apply wk_ifJ); (focus (first | ((simp (disch := omega) only [J_lit, J_add, J_sub, J_mul, J_neg, J_n, jle, jlt, jeq, jnn, jnat, Int.toNat_natCast, bJ_0, bJ_1, bft, gd_T, nar_J, nar_0, nar_1, if_true, if_false, Option.bind_some, gd_t, decide_eq_false_iff_not, decide_eq_true_eq, eo, er, Option.map_some, sn, num, oD_of g1, g2, e9]); rfl) | rfl)); all_goals intro _) | (with_reducible apply wk_some0) | ((with_reducible apply wk_eli); try dsimp only) | ((with_reducible apply wk_elr); try dsimp only) | ((with_reducible apply wk_costS); (focus ((try dsimp only); omega)); (focus ((try dsimp only); omega)); try dsimp only) | ((with_reducible apply wk_bindE); (focus ((simp (disch := omega) only [J_lit, J_add, J_sub, J_mul, J_neg, J_n, jle, jlt, jeq, jnn, jnat, Int.toNat_natCast, bJ_0, bJ_1, bft, gd_T, nar_J, nar_0, nar_1, if_true, if_false, Option.bind_some, gd_t, eo, er, Option.map_some, sn, num, oD_of g1, g2, e9]); rfl)); try dsimp only) | (with_reducible apply wk_bind) | (first | ((with_reducible apply wp_let); try dsimp only) | ((with_reducible apply wp_gdJ); (focus (first | ((simp (disch := omega) only [J_lit, J_add, J_sub, J_mul, J_neg, J_n, jle, jlt, jeq, jnn, jnat, Int.toNat_natCast, bJ_0, bJ_1, bft, gd_T, nar_J, nar_0, nar_1, if_true, if_false, Option.bind_some, gd_t, eo, er, Option.map_some, sn, num, oD_of g1, g2, e9]); rfl) | rfl)); (focus (first | exact True.intro | (first | exact vp_J (by omega) (by omega) (by omega) | omega)))) | ((with_reducible apply wp_ifJT); (focus (first | ((simp (disch := omega) only [J_lit, J_add, J_sub, J_mul, J_neg, J_n, jle, jlt, jeq, jnn, jnat, Int.toNat_natCast, bJ_0, bJ_1, bft, gd_T, nar_J, nar_0, nar_1, if_true, if_false, Option.bind_some, gd_t, decide_eq_false_iff_not, decide_eq_true_eq, eo, er, Option.map_some, sn, num, oD_of g1, g2, e9]); rfl) | rfl)); (focus (first | exact True.intro | omega))) | ((with_reducible apply wp_ifJF); (focus (first | ((simp (disch := omega) only [J_lit, J_add, J_sub, J_mul, J_neg, J_n, jle, jlt, jeq, jnn, jnat, Int.toNat_natCast, bJ_0, bJ_1, bft, gd_T, nar_J, nar_0, nar_1, if_true, if_false, Option.bind_some, gd_t, decide_eq_false_iff_not, decide_eq_true_eq, eo, er, Option.map_some, sn, num, oD_of g1, g2, e9]); rfl) | rfl)); (focus (first | exact not_false | omega))) | ((with_reducible apply wp_ifJ); (focus (first | ((simp (disch := omega) only [J_lit, J_add, J_sub, J_mul, J_neg, J_n, jle, jlt, jeq, jnn, jnat, Int.toNat_natCast, bJ_0, bJ_1, bft, gd_T, nar_J, nar_0, nar_1, if_true, if_false, Option.bind_some, gd_t, decide_eq_false_iff_not, decide_eq_true_eq, eo, er, Option.map_some, sn, num, oD_of g1, g2, e9]); rfl) | rfl)); all_goals intro _) | (with_reducible apply wp_some) | ((with_reducible apply wp_eli); try dsimp only) | ((with_reducible apply wp_elr); try dsimp only) | ((with_reducible apply wp_bindE); (focus ((simp (disch := omega) only [J_lit, J_add, J_sub, J_mul, J_neg, J_n, jle, jlt, jeq, jnn, jnat, Int.toNat_natCast, bJ_0, bJ_1, bft, gd_T, nar_J, nar_0, nar_1, if_true, if_false, Option.bind_some, gd_t, eo, er, Option.map_some, sn, num, oD_of g1, g2, e9]); rfl)); try dsimp only) | (with_reducible apply wp_bind)))); all_goals (try (simp (disch := omega) only [J_lit, J_add, J_sub, J_mul, J_neg, J_n, jle, jlt, jeq, jnn, jnat, Int.toNat_natCast, bJ_0, bJ_1, bft, gd_T, nar_J, nar_0, nar_1, if_true, if_false, Option.bind_some, gd_t, eo, er, Option.map_some, sn, num, oD_of g1, g2, e9])))
      refine ⟨by omega, _, rfl, eqx_trans x (eqx_sA (by decide)), fun c hc2 => ?_, fun r hr => ?_⟩
      · rw [sA_ne _ _ (by omega)]; exact x1 c hc2
      · rw [sA_same]
        by_cases q : r = k
        · subst q; rw [uA_same, if_pos (by omega)]
        · rw [uA_ne _ _ q, x2 r hr]
          exact congrArg J (by by_cases q2 : r < k <;> simp [q2] <;> omega)
end
end
